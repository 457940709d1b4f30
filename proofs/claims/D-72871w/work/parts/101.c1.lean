/-! leaves: the JDK's small methods, frames -/
set_option maxRecDepth 100000
set_option maxHeartbeats 4000000 in
theorem met_J0_init (l : Launch) (G : gG) (M : gM) (h : Nat)   : Met l yJ0_init (ws_ yJ0_init cJ0_init 1 none) ({ frames := 1, cells := 0, slots := 0, locals := 12 }) (gPc G [.ref h] M) (gQv G (fun M9 k9 => M9 = M ∧ k9 = 0)) 0 0 (gA G) := by
  refine gMet [(0, .ref h)] (by decide) (Nat.le_of_ble_eq_true rfl) rfl ?_
  intro p e s m below meth c hC
  refine g_aload_n hC dJ0_init_0 0 rfl gRef_r 1 rfl ?_
  refine g_objInit hC q200 q176 q177 dJ0_init_1 (Nat.le_of_ble_eq_true rfl) (Nat.le_of_ble_eq_true rfl) 4 rfl ?_
  exact g_vret hC (fun k9 hk9 => ⟨rfl, Nat.le_zero.mp hk9⟩) dJ0_init_4 (Nat.le_of_ble_eq_true rfl) (Nat.le_of_ble_eq_true rfl)
set_option maxHeartbeats 4000000 in
theorem met_J5_init (l : Launch) (G : gG) (M : gM) (h : Nat)   : Met l yJ5_init (ws_ yJ5_init cJ5_init 1 none) ({ frames := 2, cells := 0, slots := 0, locals := 32 }) (gPc G [.ref h] M) (gQv G (fun M9 k9 => M9 = M ∧ k9 = 0)) 0 0 (gA G) := by
  refine gMet [(0, .ref h)] (by decide) (Nat.le_of_ble_eq_true rfl) rfl ?_
  intro p e s m below meth c hC
  refine g_aload_n hC dJ5_init_0 0 rfl gRef_r 1 rfl ?_
  refine g_callvP (g_I (As := []) (rest := []) hC miJ0_init q287 (met_J0_init l G M h) ⟨rfl, rfl⟩ ⟨(Nat.le_of_ble_eq_true rfl), (Nat.le_of_ble_eq_true rfl)⟩ rfl (Nat.le_of_ble_eq_true rfl) dJ5_init_1 rfl ⟨(Nat.le_of_ble_eq_true rfl), (Nat.le_of_ble_eq_true rfl)⟩) 4 rfl 0 (Nat.le_of_ble_eq_true rfl) ?_
  exact g_vret hC (fun k9 hk9 => ⟨rfl, Nat.le_zero.mp hk9⟩) dJ5_init_4 (Nat.le_of_ble_eq_true rfl) (Nat.le_of_ble_eq_true rfl)
set_option maxHeartbeats 4000000 in
theorem met_J8_init (l : Launch) (G : gG) (M : gM) (h : Nat)   : Met l yJ8_init (ws_ yJ8_init cJ8_init 1 none) ({ frames := 1, cells := 0, slots := 0, locals := 12 }) (gPc G [.ref h] M) (gQv G (fun M9 k9 => M9 = M ∧ k9 = 0)) 0 0 (gA G) := by
  refine gMet [(0, .ref h)] (by decide) (Nat.le_of_ble_eq_true rfl) rfl ?_
  intro p e s m below meth c hC
  refine g_aload_n hC dJ8_init_0 0 rfl gRef_r 1 rfl ?_
  refine g_objInit hC q341 q176 q177 dJ8_init_1 (Nat.le_of_ble_eq_true rfl) (Nat.le_of_ble_eq_true rfl) 4 rfl ?_
  exact g_vret hC (fun k9 hk9 => ⟨rfl, Nat.le_zero.mp hk9⟩) dJ8_init_4 (Nat.le_of_ble_eq_true rfl) (Nat.le_of_ble_eq_true rfl)
set_option maxHeartbeats 4000000 in
theorem met_J38_init (l : Launch) (G : gG) (M : gM) (h : Nat)   : Met l yJ38_init (ws_ yJ38_init cJ38_init 1 none) ({ frames := 2, cells := 0, slots := 0, locals := 32 }) (gPc G [.ref h] M) (gQv G (fun M9 k9 => M9 = M ∧ k9 = 0)) 0 0 (gA G) := by
  refine gMet [(0, .ref h)] (by decide) (Nat.le_of_ble_eq_true rfl) rfl ?_
  intro p e s m below meth c hC
  refine g_aload_n hC dJ38_init_0 0 rfl gRef_r 1 rfl ?_
  refine g_callvP (g_I (As := []) (rest := []) hC miJ0_init q2493 (met_J0_init l G M h) ⟨rfl, rfl⟩ ⟨(Nat.le_of_ble_eq_true rfl), (Nat.le_of_ble_eq_true rfl)⟩ rfl (Nat.le_of_ble_eq_true rfl) dJ38_init_1 rfl ⟨(Nat.le_of_ble_eq_true rfl), (Nat.le_of_ble_eq_true rfl)⟩) 4 rfl 0 (Nat.le_of_ble_eq_true rfl) ?_
  exact g_vret hC (fun k9 hk9 => ⟨rfl, Nat.le_zero.mp hk9⟩) dJ38_init_4 (Nat.le_of_ble_eq_true rfl) (Nat.le_of_ble_eq_true rfl)
set_option maxHeartbeats 4000000 in
theorem met_J10_init (l : Launch) (G : gG) (M : gM) (h : Nat)   : Met l yJ10_init (ws_ yJ10_init cJ10_init 1 none) ({ frames := 1, cells := 0, slots := 0, locals := 12 }) (gPc G [.ref h] M) (gQv G (fun M9 k9 => M9 = M ∧ k9 = 0)) 0 0 (gA G) := by
  refine gMet [(0, .ref h)] (by decide) (Nat.le_of_ble_eq_true rfl) rfl ?_
  intro p e s m below meth c hC
  refine g_aload_n hC dJ10_init_0 0 rfl gRef_r 1 rfl ?_
  refine g_objInit hC q585 q176 q177 dJ10_init_1 (Nat.le_of_ble_eq_true rfl) (Nat.le_of_ble_eq_true rfl) 4 rfl ?_
  exact g_vret hC (fun k9 hk9 => ⟨rfl, Nat.le_zero.mp hk9⟩) dJ10_init_4 (Nat.le_of_ble_eq_true rfl) (Nat.le_of_ble_eq_true rfl)
set_option maxHeartbeats 4000000 in
theorem met_X6_init (l : Launch) (G : gG) (M : gM) (h : Nat)   : Met l yX6_init (ws_ yX6_init cX6_init 1 none) ({ frames := 1, cells := 0, slots := 0, locals := 12 }) (gPc G [.ref h] M) (gQv G (fun M9 k9 => M9 = M ∧ k9 = 0)) 0 0 (gA G) := by
  refine gMet [(0, .ref h)] (by decide) (Nat.le_of_ble_eq_true rfl) rfl ?_
  intro p e s m below meth c hC
  refine g_aload_n hC dX6_init_0 0 rfl gRef_r 1 rfl ?_
  refine g_objInit hC q333 q176 q177 dX6_init_1 (Nat.le_of_ble_eq_true rfl) (Nat.le_of_ble_eq_true rfl) 4 rfl ?_
  exact g_vret hC (fun k9 hk9 => ⟨rfl, Nat.le_zero.mp hk9⟩) dX6_init_4 (Nat.le_of_ble_eq_true rfl) (Nat.le_of_ble_eq_true rfl)
def cmpI (x y : Int32) : Int32 := if x < y then -1 else if x = y then 0 else 1
set_option maxHeartbeats 4000000 in
theorem met_compare (l : Launch) (G : gG) (M : gM) (x : Int32) (y : Int32)   : Met l yJ11_compare (ws_ yJ11_compare cJ11_compare 2 (some .int)) ({ frames := 0, cells := 0, slots := 0, locals := 0 }) (gPc G [.int x, .int y] M) (gQi G (fun r9 M9 k9 => r9 = (cmpI x y) ∧ M9 = M ∧ k9 = 0)) 0 0 (gA G) := by
  refine gMet [(0, .int x), (1, .int y)] (by decide) (Nat.le_of_ble_eq_true rfl) rfl ?_
  intro p e s m below meth c hC
  refine g_iload_n hC dJ11_compare_0 0 rfl 1 rfl ?_
  refine g_iload_n hC dJ11_compare_1 1 rfl 2 rfl ?_
  refine g_icmp_ge hC dJ11_compare_2 9 rfl 5 rfl (fun c_1 => ?_) (fun c_1 => ?_)
  · refine g_iload_n hC dJ11_compare_9 0 rfl 10 rfl ?_
    refine g_iload_n hC dJ11_compare_10 1 rfl 11 rfl ?_
    refine g_icmp_ne hC dJ11_compare_11 18 rfl 14 rfl (fun c_2 => ?_) (fun c_2 => ?_)
    · refine g_iconst hC dJ11_compare_18 ki_1 19 rfl ?_
      exact g_iret (v := 1) hC (fun k9 hk9 => ⟨(by first | rfl | (simp only [cmpI, eq_true c_1, eq_false c_2, eq_false (Int32.not_lt.mpr c_1), if_true, if_false, true_and, and_true, false_and, and_false, true_or, or_true, false_or, or_false, not_true_eq_false, not_false_eq_true, reduceIte, decide_true, decide_false, Bool.false_eq_true]; done) | (simp only [cmpI, eq_true c_1, eq_false c_2, eq_false (Int32.not_lt.mpr c_1), if_true, if_false, true_and, and_true, false_and, and_false, true_or, or_true, false_or, or_false, not_true_eq_false, not_false_eq_true, reduceIte, decide_true, decide_false, Bool.false_eq_true]; rfl) | (simp only [cmpI, c_1, Int32.not_lt.mpr c_1, c_2, if_true, if_false, true_and, and_true, false_and, and_false, true_or, or_true, false_or, or_false, not_true_eq_false, not_false_eq_true, reduceIte, decide_true, decide_false, Bool.false_eq_true]; done) | (simp only [cmpI]; simp only [if_true, if_false, true_and, and_true, false_and, and_false, true_or, or_true, false_or, or_false, not_true_eq_false, not_false_eq_true, reduceIte, decide_true, decide_false, Bool.false_eq_true, eq_true c_1, eq_false c_2, eq_false (Int32.not_lt.mpr c_1)]; done) | (simp only [cmpI]; simp only [if_true, if_false, true_and, and_true, false_and, and_false, true_or, or_true, false_or, or_false, not_true_eq_false, not_false_eq_true, reduceIte, decide_true, decide_false, Bool.false_eq_true, c_1, Int32.not_lt.mpr c_1, c_2]; done) | (simp only [cmpI]; simp only [if_true, if_false, true_and, and_true, false_and, and_false, true_or, or_true, false_or, or_false, not_true_eq_false, not_false_eq_true, reduceIte, decide_true, decide_false, Bool.false_eq_true, c_1, Int32.not_lt.mpr c_1, c_2]; simp only [cmpI]; done) | (simp only [cmpI, c_1, Int32.not_lt.mpr c_1, c_2, if_true, if_false, true_and, and_true, false_and, and_false, true_or, or_true, false_or, or_false, not_true_eq_false, not_false_eq_true, reduceIte, decide_true, decide_false, Bool.false_eq_true]; rfl) | (simp only [cmpI]; simp only [if_true, if_false, true_and, and_true, false_and, and_false, true_or, or_true, false_or, or_false, not_true_eq_false, not_false_eq_true, reduceIte, decide_true, decide_false, Bool.false_eq_true, c_1, Int32.not_lt.mpr c_1, c_2]; rfl) | (simp only [cmpI]; rfl) | (simp only [cmpI, c_1, Int32.not_lt.mpr c_1, c_2, if_true, if_false, true_and, and_true, false_and, and_false, true_or, or_true, false_or, or_false, not_true_eq_false, not_false_eq_true, reduceIte, decide_true, decide_false, Bool.false_eq_true]; rfl) | (simp_all [cmpI]; done)), rfl, Nat.le_zero.mp hk9⟩) dJ11_compare_19 (Nat.le_of_ble_eq_true rfl) (Nat.le_of_ble_eq_true rfl)
    · refine g_iconst hC dJ11_compare_14 ki_0 15 rfl ?_
      refine g_goto hC dJ11_compare_15 19 rfl ?_
      exact g_iret (v := 0) hC (fun k9 hk9 => ⟨(by first | rfl | (simp only [cmpI, eq_true c_1, eq_true c_2, eq_false (Int32.not_lt.mpr c_1), if_true, if_false, true_and, and_true, false_and, and_false, true_or, or_true, false_or, or_false, not_true_eq_false, not_false_eq_true, reduceIte, decide_true, decide_false, Bool.false_eq_true]; done) | (simp only [cmpI, eq_true c_1, eq_true c_2, eq_false (Int32.not_lt.mpr c_1), if_true, if_false, true_and, and_true, false_and, and_false, true_or, or_true, false_or, or_false, not_true_eq_false, not_false_eq_true, reduceIte, decide_true, decide_false, Bool.false_eq_true]; rfl) | (simp only [cmpI, c_1, Int32.not_lt.mpr c_1, c_2, if_true, if_false, true_and, and_true, false_and, and_false, true_or, or_true, false_or, or_false, not_true_eq_false, not_false_eq_true, reduceIte, decide_true, decide_false, Bool.false_eq_true]; done) | (simp only [cmpI]; simp only [if_true, if_false, true_and, and_true, false_and, and_false, true_or, or_true, false_or, or_false, not_true_eq_false, not_false_eq_true, reduceIte, decide_true, decide_false, Bool.false_eq_true, eq_true c_1, eq_true c_2, eq_false (Int32.not_lt.mpr c_1)]; done) | (simp only [cmpI]; simp only [if_true, if_false, true_and, and_true, false_and, and_false, true_or, or_true, false_or, or_false, not_true_eq_false, not_false_eq_true, reduceIte, decide_true, decide_false, Bool.false_eq_true, c_1, Int32.not_lt.mpr c_1, c_2]; done) | (simp only [cmpI]; simp only [if_true, if_false, true_and, and_true, false_and, and_false, true_or, or_true, false_or, or_false, not_true_eq_false, not_false_eq_true, reduceIte, decide_true, decide_false, Bool.false_eq_true, c_1, Int32.not_lt.mpr c_1, c_2]; simp only [cmpI]; done) | (simp only [cmpI, c_1, Int32.not_lt.mpr c_1, c_2, if_true, if_false, true_and, and_true, false_and, and_false, true_or, or_true, false_or, or_false, not_true_eq_false, not_false_eq_true, reduceIte, decide_true, decide_false, Bool.false_eq_true]; rfl) | (simp only [cmpI]; simp only [if_true, if_false, true_and, and_true, false_and, and_false, true_or, or_true, false_or, or_false, not_true_eq_false, not_false_eq_true, reduceIte, decide_true, decide_false, Bool.false_eq_true, c_1, Int32.not_lt.mpr c_1, c_2]; rfl) | (simp only [cmpI]; rfl) | (simp only [cmpI, c_1, Int32.not_lt.mpr c_1, c_2, if_true, if_false, true_and, and_true, false_and, and_false, true_or, or_true, false_or, or_false, not_true_eq_false, not_false_eq_true, reduceIte, decide_true, decide_false, Bool.false_eq_true]; rfl) | (simp_all [cmpI]; done)), rfl, Nat.le_zero.mp hk9⟩) dJ11_compare_19 (Nat.le_of_ble_eq_true rfl) (Nat.le_of_ble_eq_true rfl)
  · refine g_iconst hC dJ11_compare_5 ki_m1 6 rfl ?_
    refine g_goto hC dJ11_compare_6 19 rfl ?_
    exact g_iret (v := -1) hC (fun k9 hk9 => ⟨(by first | rfl | (simp only [cmpI, eq_false c_1, eq_true (Int32.not_le.mp c_1), if_true, if_false, true_and, and_true, false_and, and_false, true_or, or_true, false_or, or_false, not_true_eq_false, not_false_eq_true, reduceIte, decide_true, decide_false, Bool.false_eq_true]; done) | (simp only [cmpI, eq_false c_1, eq_true (Int32.not_le.mp c_1), if_true, if_false, true_and, and_true, false_and, and_false, true_or, or_true, false_or, or_false, not_true_eq_false, not_false_eq_true, reduceIte, decide_true, decide_false, Bool.false_eq_true]; rfl) | (simp only [cmpI, c_1, Int32.not_le.mp c_1, if_true, if_false, true_and, and_true, false_and, and_false, true_or, or_true, false_or, or_false, not_true_eq_false, not_false_eq_true, reduceIte, decide_true, decide_false, Bool.false_eq_true]; done) | (simp only [cmpI]; simp only [if_true, if_false, true_and, and_true, false_and, and_false, true_or, or_true, false_or, or_false, not_true_eq_false, not_false_eq_true, reduceIte, decide_true, decide_false, Bool.false_eq_true, eq_false c_1, eq_true (Int32.not_le.mp c_1)]; done) | (simp only [cmpI]; simp only [if_true, if_false, true_and, and_true, false_and, and_false, true_or, or_true, false_or, or_false, not_true_eq_false, not_false_eq_true, reduceIte, decide_true, decide_false, Bool.false_eq_true, c_1, Int32.not_le.mp c_1]; done) | (simp only [cmpI]; simp only [if_true, if_false, true_and, and_true, false_and, and_false, true_or, or_true, false_or, or_false, not_true_eq_false, not_false_eq_true, reduceIte, decide_true, decide_false, Bool.false_eq_true, c_1, Int32.not_le.mp c_1]; simp only [cmpI]; done) | (simp only [cmpI, c_1, Int32.not_le.mp c_1, if_true, if_false, true_and, and_true, false_and, and_false, true_or, or_true, false_or, or_false, not_true_eq_false, not_false_eq_true, reduceIte, decide_true, decide_false, Bool.false_eq_true]; rfl) | (simp only [cmpI]; simp only [if_true, if_false, true_and, and_true, false_and, and_false, true_or, or_true, false_or, or_false, not_true_eq_false, not_false_eq_true, reduceIte, decide_true, decide_false, Bool.false_eq_true, c_1, Int32.not_le.mp c_1]; rfl) | (simp only [cmpI]; rfl) | (simp only [cmpI, c_1, Int32.not_le.mp c_1, if_true, if_false, true_and, and_true, false_and, and_false, true_or, or_true, false_or, or_false, not_true_eq_false, not_false_eq_true, reduceIte, decide_true, decide_false, Bool.false_eq_true]; rfl) | (simp_all [cmpI]; done)), rfl, Nat.le_zero.mp hk9⟩) dJ11_compare_19 (Nat.le_of_ble_eq_true rfl) (Nat.le_of_ble_eq_true rfl)
def minI (x y : Int32) : Int32 := if y < x then y else x
def maxI (x y : Int32) : Int32 := if x < y then y else x
set_option maxHeartbeats 4000000 in
theorem met_intValue (l : Launch) (G : gG) (M : gM) (a : Nat) (x : Int32) (hb : gBox G M a x)  : Met l yJ11_intValue (ws_ yJ11_intValue cJ11_intValue 1 (some .int)) ({ frames := 0, cells := 0, slots := 0, locals := 0 }) (gPc G [.ref a] M) (gQi G (fun r9 M9 k9 => r9 = x ∧ M9 = M ∧ k9 = 0)) 0 0 (gA G) := by
  refine gMet [(0, .ref a)] (by decide) (Nat.le_of_ble_eq_true rfl) rfl ?_
  intro p e s m below meth c hC
  refine g_aload_n hC dJ11_intValue_0 0 rfl gRef_r 1 rfl ?_
  refine g_ival hC hb q586 dJ11_intValue_1 4 rfl ?_
  exact g_iret (v := x) hC (fun k9 hk9 => ⟨rfl, rfl, Nat.le_zero.mp hk9⟩) dJ11_intValue_4 (Nat.le_of_ble_eq_true rfl) (Nat.le_of_ble_eq_true rfl)
set_option maxHeartbeats 4000000 in
theorem met_ordinal (l : Launch) (G : gG) (M : gM) (i : Nat) (hi : i < 10)  : Met l yJ4_ordinal (ws_ yJ4_ordinal cJ4_ordinal 1 (some .int)) ({ frames := 0, cells := 0, slots := 0, locals := 0 }) (gPc G [.ref (gph G i)] M) (gQi G (fun r9 M9 k9 => r9 = (nI i) ∧ M9 = M ∧ k9 = 0)) 0 0 (gA G) := by
  refine gMet [(0, .ref (gph G i))] (by decide) (Nat.le_of_ble_eq_true rfl) rfl ?_
  intro p e s m below meth c hC
  refine g_aload_n hC dJ4_ordinal_0 0 rfl gRef_r 1 rfl ?_
  refine g_ord hC hi q3476 dJ4_ordinal_1 4 rfl ?_
  exact g_iret (v := nI i) hC (fun k9 hk9 => ⟨rfl, rfl, Nat.le_zero.mp hk9⟩) dJ4_ordinal_4 (Nat.le_of_ble_eq_true rfl) (Nat.le_of_ble_eq_true rfl)
set_option maxHeartbeats 4000000 in
theorem met_Int_init (l : Launch) (G : gG) (M : gM) (h : Nat) (t : Nat × Nat) (x : Int32)  (hM_0 : M h = some (t, .inr (28, [.int 0]))) : Met l yJ11_init (ws_ yJ11_init cJ11_init 2 none) ({ frames := 2, cells := 0, slots := 0, locals := 32 }) (gPc G [.ref h, .int x] M) (gQv G (fun M9 k9 => M9 h = some (t, .inr (28, [.int x])) ∧ gFr (gL [h]) M M9 ∧ k9 = 0)) 0 0 (gA G) := by
  refine gMet [(0, .ref h), (1, .int x)] (by decide) (Nat.le_of_ble_eq_true rfl) rfl ?_
  intro p e s m below meth c hC
  refine g_aload_n hC dJ11_init_0 0 rfl gRef_r 1 rfl ?_
  refine g_callvP (g_I (As := []) (rest := []) hC miJ10_init q582 (met_J10_init l G M h) ⟨rfl, rfl⟩ ⟨(Nat.le_of_ble_eq_true rfl), (Nat.le_of_ble_eq_true rfl)⟩ rfl (Nat.le_of_ble_eq_true rfl) dJ11_init_1 rfl ⟨(Nat.le_of_ble_eq_true rfl), (Nat.le_of_ble_eq_true rfl)⟩) 4 rfl 0 (Nat.le_of_ble_eq_true rfl) ?_
  refine g_aload_n hC dJ11_init_4 0 rfl gRef_r 5 rfl ?_
  refine g_iload_n hC dJ11_init_5 1 rfl 6 rfl ?_
  refine g_putF hC cI28 hM_0 0 (Nat.le_of_ble_eq_true rfl) q586 rfl rfl rfl rfl (Nat.le_of_ble_eq_true rfl) dJ11_init_6 (fs' := [.int x]) rfl 9 rfl (fun M1 hU2 => ?_)
  exact g_vret hC (fun k9 hk9 => ⟨hU2.1, (gFr.refl.up hU2 hM_0 (by simp)), (by first | exact Nat.le_zero.mp hk9 | omega)⟩) dJ11_init_9 (Nat.le_of_ble_eq_true rfl) (Nat.le_of_ble_eq_true rfl)
set_option maxHeartbeats 4000000 in
theorem met_valueOf (l : Launch) (G : gG) (M : gM) (x : Int32)   : Met l yJ11_valueOf (ws_ yJ11_valueOf cJ11_valueOf 1 (some (.object "java/lang/Integer"))) ({ frames := 3, cells := 1, slots := 1, locals := 53 }) (gPc G [.int x] M) (gQq G (fun r9 M9 k9 => ∃ a : Nat, r9 = (some a) ∧ gFr (gL []) M M9 ∧ gBox G M9 a x ∧ k9 ≤ 1)) 1 1 (gA G) := by
  refine gMet [(0, .int x)] (by decide) (Nat.le_of_ble_eq_true rfl) rfl ?_
  intro p e s m below meth c hC
  refine g_iload_n hC dJ11_valueOf_0 0 rfl 1 rfl ?_
  refine g_bipush hC dJ11_valueOf_1 kb_m128 3 rfl ?_
  refine g_icmp_lt hC dJ11_valueOf_3 23 rfl 6 rfl (fun c_1 => ?_) (fun c_1 => ?_)
  · refine g_new hC cI28 q577 q578 q123 df28 (0, 0) (Nat.le_of_ble_eq_true rfl) (Nat.le_of_ble_eq_true rfl) 1 (Nat.le_of_ble_eq_true rfl) 1 (Nat.le_of_ble_eq_true rfl) dJ11_valueOf_23 26 rfl (fun a2 M3 hN4 => ?_)
    refine g_dup hC dJ11_valueOf_26 rfl 27 rfl ?_
    refine g_iload_n hC dJ11_valueOf_27 0 rfl 28 rfl ?_
    refine g_callv (g_I (As := [.int x]) (rest := [.ref a2]) hC miJ11_init q579 (met_Int_init l G M3 a2 (0, 0) x hN4.2.1) ⟨rfl, rfl⟩ ⟨(Nat.le_of_ble_eq_true rfl), (Nat.le_of_ble_eq_true rfl)⟩ rfl (Nat.le_of_ble_eq_true rfl) dJ11_valueOf_28 rfl ⟨(Nat.le_of_ble_eq_true rfl), (Nat.le_of_ble_eq_true rfl)⟩) 1 (Nat.le_of_ble_eq_true rfl) 1 (Nat.le_of_ble_eq_true rfl) 31 rfl (fun M5 k6 hp7 => ?_)
    obtain ⟨hc9, hF10, hk11⟩ := hp7
    exact g_aret (v := some a2) hC (Or.inl ⟨_, rfl⟩) (fun k9 hk9 => ⟨a2, rfl, ((gFr.refl.nw hN4).trf hF10 (fun b t e hb hn => (gno (hN4.ne (gFr.refl b t e hb hn)) gno0))), (Or.inl ⟨_, hc9, rfl⟩), by omega⟩) dJ11_valueOf_31 (Nat.le_of_ble_eq_true rfl) (Nat.le_of_ble_eq_true rfl)
  · refine g_iload_n hC dJ11_valueOf_6 0 rfl 7 rfl ?_
    refine g_gets hC hC.K.2.2.2.1.2.1 q573 dJ11_valueOf_7 10 rfl ?_
    refine g_icmp_gt hC dJ11_valueOf_10 23 rfl 13 rfl (fun c_12 => ?_) (fun c_12 => ?_)
    · refine g_new hC cI28 q577 q578 q123 df28 (0, 0) (Nat.le_of_ble_eq_true rfl) (Nat.le_of_ble_eq_true rfl) 1 (Nat.le_of_ble_eq_true rfl) 1 (Nat.le_of_ble_eq_true rfl) dJ11_valueOf_23 26 rfl (fun a13 M14 hN15 => ?_)
      refine g_dup hC dJ11_valueOf_26 rfl 27 rfl ?_
      refine g_iload_n hC dJ11_valueOf_27 0 rfl 28 rfl ?_
      refine g_callv (g_I (As := [.int x]) (rest := [.ref a13]) hC miJ11_init q579 (met_Int_init l G M14 a13 (0, 0) x hN15.2.1) ⟨rfl, rfl⟩ ⟨(Nat.le_of_ble_eq_true rfl), (Nat.le_of_ble_eq_true rfl)⟩ rfl (Nat.le_of_ble_eq_true rfl) dJ11_valueOf_28 rfl ⟨(Nat.le_of_ble_eq_true rfl), (Nat.le_of_ble_eq_true rfl)⟩) 1 (Nat.le_of_ble_eq_true rfl) 1 (Nat.le_of_ble_eq_true rfl) 31 rfl (fun M16 k17 hp18 => ?_)
      obtain ⟨hc20, hF21, hk22⟩ := hp18
      exact g_aret (v := some a13) hC (Or.inl ⟨_, rfl⟩) (fun k9 hk9 => ⟨a13, rfl, ((gFr.refl.nw hN15).trf hF21 (fun b t e hb hn => (gno (hN15.ne (gFr.refl b t e hb hn)) gno0))), (Or.inl ⟨_, hc20, rfl⟩), by omega⟩) dJ11_valueOf_31 (Nat.le_of_ble_eq_true rfl) (Nat.le_of_ble_eq_true rfl)
    · obtain ⟨j, hj, e1, e2⟩ := bx_small c_1 c_12
      refine g_gets hC hC.K.2.2.2.1.2.2.1 q575 dJ11_valueOf_13 16 rfl ?_
      refine g_iload_n hC dJ11_valueOf_16 0 rfl 17 rfl ?_
      refine g_sipush hC dJ11_valueOf_17 ks_128 20 rfl ?_
      refine g_iadd hC dJ11_valueOf_20 21 rfl ?_
      refine g_cache hC hj e1 dJ11_valueOf_21 22 rfl ?_
      exact g_aret (v := some (gbx G j)) hC (Or.inl ⟨_, rfl⟩) (fun k9 hk9 => ⟨(gbx G j), rfl, gFr.refl, (Or.inr ⟨j, hj, rfl, e2⟩), by omega⟩) dJ11_valueOf_22 (Nat.le_of_ble_eq_true rfl) (Nat.le_of_ble_eq_true rfl)
theorem gBox.fr {G : gG} {M M' : gM} {P : Nat → (Nat × Nat) → Prop} {a : Nat} {x : Int32} (h : gBox G M a x) (hF : gFr P M M') (hP : ∀ b t, P b t → t.1 ≠ 0) : gBox G M' a x := by
  rcases h with ⟨t, h1, h2⟩ | h
  · exact Or.inl ⟨t, hF a t _ h1 (fun q => hP a t q h2), h2⟩
  · exact Or.inr h
set_option maxHeartbeats 4000000 in
theorem met_byId2 (l : Launch) (G : gG) (M : gM) (h : Nat) (th : Nat × Nat) (a : Nat) (b : Nat) (x : Int32) (y : Int32) (ha : gBox G M a x) (hb : gBox G M b y) (hM_0 : M h = some (th, .inr (5, []))) : Met l yX6_compare_2 (ws_ yX6_compare_2 cX6_compare_2 3 (some .int)) ({ frames := 1, cells := 0, slots := 0, locals := 21 }) (gPc G [.ref h, .ref a, .ref b] M) (gQi G (fun r9 M9 k9 => r9 = (cmpI x y) ∧ M9 = M ∧ k9 = 0)) 0 0 (gA G) := by
  refine gMet [(0, .ref h), (1, .ref a), (2, .ref b)] (by decide) (Nat.le_of_ble_eq_true rfl) rfl ?_
  intro p e s m below meth c hC
  refine g_aload_n hC dX6_compare_2_0 1 rfl gRef_r 1 rfl ?_
  refine g_calliP (g_V (As := []) (rest := []) hC mvJ11_intValue q617 (gOf.box hC.K ha) (met_intValue l G M a x ha) ⟨rfl, rfl⟩ ⟨(Nat.le_of_ble_eq_true rfl), (Nat.le_of_ble_eq_true rfl)⟩ rfl (Nat.le_of_ble_eq_true rfl) dX6_compare_2_1 rfl ⟨(Nat.le_of_ble_eq_true rfl), (Nat.le_of_ble_eq_true rfl)⟩) 4 rfl 0 (Nat.le_of_ble_eq_true rfl) ?_
  refine g_aload_n hC dX6_compare_2_4 2 rfl gRef_r 5 rfl ?_
  refine g_calliP (g_V (As := []) (rest := [.int x]) hC mvJ11_intValue q617 (gOf.box hC.K hb) (met_intValue l G M b y hb) ⟨rfl, rfl⟩ ⟨(Nat.le_of_ble_eq_true rfl), (Nat.le_of_ble_eq_true rfl)⟩ rfl (Nat.le_of_ble_eq_true rfl) dX6_compare_2_5 rfl ⟨(Nat.le_of_ble_eq_true rfl), (Nat.le_of_ble_eq_true rfl)⟩) 8 rfl 0 (Nat.le_of_ble_eq_true rfl) ?_
  refine g_calliP (g_S (As := [.int x, .int y]) (rest := []) hC msJ11_compare q621 (met_compare l G M x y) ⟨rfl, rfl⟩ ⟨(Nat.le_of_ble_eq_true rfl), (Nat.le_of_ble_eq_true rfl)⟩ rfl (Nat.le_of_ble_eq_true rfl) dX6_compare_2_8 rfl ⟨(Nat.le_of_ble_eq_true rfl), (Nat.le_of_ble_eq_true rfl)⟩) 11 rfl 0 (Nat.le_of_ble_eq_true rfl) ?_
  exact g_iret (v := cmpI x y) hC (fun k9 hk9 => ⟨rfl, rfl, Nat.le_zero.mp hk9⟩) dX6_compare_2_11 (Nat.le_of_ble_eq_true rfl) (Nat.le_of_ble_eq_true rfl)
set_option maxHeartbeats 4000000 in
theorem met_byId (l : Launch) (G : gG) (M : gM) (h : Nat) (th : Nat × Nat) (a : Nat) (b : Nat) (x : Int32) (y : Int32) (ha : gBox G M a x) (hb : gBox G M b y) (hM_0 : M h = some (th, .inr (5, []))) : Met l yX6_compare (ws_ yX6_compare cX6_compare 3 (some .int)) ({ frames := 2, cells := 0, slots := 0, locals := 43 }) (gPc G [.ref h, .ref a, .ref b] M) (gQi G (fun r9 M9 k9 => r9 = (cmpI x y) ∧ M9 = M ∧ k9 = 0)) 0 0 (gA G) := by
  refine gMet [(0, .ref h), (1, .ref a), (2, .ref b)] (by decide) (Nat.le_of_ble_eq_true rfl) rfl ?_
  intro p e s m below meth c hC
  refine g_aload_n hC dX6_compare_0 0 rfl gRef_r 1 rfl ?_
  refine g_aload_n hC dX6_compare_1 1 rfl gRef_r 2 rfl ?_
  refine g_castS hC (hC.at cI28) (gOf.box hC.K ha) q612 dX6_compare_2 5 rfl ?_
  refine g_aload_n hC dX6_compare_5 2 rfl gRef_r 6 rfl ?_
  refine g_castS hC (hC.at cI28) (gOf.box hC.K hb) q612 dX6_compare_6 9 rfl ?_
  refine g_calliP (g_V (As := [.ref a, .ref b]) (rest := []) hC mvX6_compare_2 q613 (gOf.of hC.K cI5 hM_0) (met_byId2 l G M h th a b x y ha hb hM_0) ⟨rfl, rfl⟩ ⟨(Nat.le_of_ble_eq_true rfl), (Nat.le_of_ble_eq_true rfl)⟩ rfl (Nat.le_of_ble_eq_true rfl) dX6_compare_9 rfl ⟨(Nat.le_of_ble_eq_true rfl), (Nat.le_of_ble_eq_true rfl)⟩) 12 rfl 0 (Nat.le_of_ble_eq_true rfl) ?_
  exact g_iret (v := cmpI x y) hC (fun k9 hk9 => ⟨rfl, rfl, Nat.le_zero.mp hk9⟩) dX6_compare_12 (Nat.le_of_ble_eq_true rfl) (Nat.le_of_ble_eq_true rfl)
abbrev frD := Int32 × Bool × Int32 × Int32 × Int32
def frK (x : frD) : Int32 := fr_key x.1 x.2.1
def cmpF (x y : frD) : Int32 := if frK x = frK y then cmpI x.2.2.2.2 y.2.2.2.2 else cmpI (frK x) (frK y)
set_option maxHeartbeats 4000000 in
theorem met_Fr_cmp2 (l : Launch) (G : gG) (M : gM) (a : Nat) (b : Nat) (x : frD) (y : frD)  (hM_0 : M a = some ((0, 1), .inr (8, [.int x.1, .int (bI x.2.1), .int x.2.2.1, .int x.2.2.2.1, .int x.2.2.2.2]))) (hM_1 : M b = some ((0, 1), .inr (8, [.int y.1, .int (bI y.2.1), .int y.2.2.1, .int y.2.2.2.1, .int y.2.2.2.2]))) : Met l yX9_compareTo_2 (ws_ yX9_compareTo_2 cX9_compareTo_2 2 (some .int)) ({ frames := 1, cells := 0, slots := 0, locals := 21 }) (gPc G [.ref a, .ref b] M) (gQi G (fun r9 M9 k9 => r9 = (cmpF x y) ∧ M9 = M ∧ k9 = 0)) 0 0 (gA G) := by
  refine gMet [(0, .ref a), (1, .ref b)] (by decide) (Nat.le_of_ble_eq_true rfl) rfl ?_
  intro p e s m below meth c hC
  refine g_aload_n hC dX9_compareTo_2_0 0 rfl gRef_r 1 rfl ?_
  refine g_calliP (g_V (As := []) (rest := []) hC mvX9_key q643 (gOf.of hC.K cI8 hM_0) (met_Fr_key l G M a (0, 1) x.1 x.2.1 x.2.2.1 x.2.2.2.1 x.2.2.2.2 hM_0) ⟨rfl, rfl⟩ ⟨(Nat.le_of_ble_eq_true rfl), (Nat.le_of_ble_eq_true rfl)⟩ rfl (Nat.le_of_ble_eq_true rfl) dX9_compareTo_2_1 rfl ⟨(Nat.le_of_ble_eq_true rfl), (Nat.le_of_ble_eq_true rfl)⟩) 4 rfl 0 (Nat.le_of_ble_eq_true rfl) ?_
  refine g_aload_n hC dX9_compareTo_2_4 1 rfl gRef_r 5 rfl ?_
  refine g_calliP (g_V (As := []) (rest := [.int (fr_key x.1 x.2.1)]) hC mvX9_key q643 (gOf.of hC.K cI8 hM_1) (met_Fr_key l G M b (0, 1) y.1 y.2.1 y.2.2.1 y.2.2.2.1 y.2.2.2.2 hM_1) ⟨rfl, rfl⟩ ⟨(Nat.le_of_ble_eq_true rfl), (Nat.le_of_ble_eq_true rfl)⟩ rfl (Nat.le_of_ble_eq_true rfl) dX9_compareTo_2_5 rfl ⟨(Nat.le_of_ble_eq_true rfl), (Nat.le_of_ble_eq_true rfl)⟩) 8 rfl 0 (Nat.le_of_ble_eq_true rfl) ?_
  refine g_icmp_eq hC dX9_compareTo_2_8 25 rfl 11 rfl (fun c_1 => ?_) (fun c_1 => ?_)
  · refine g_aload_n hC dX9_compareTo_2_25 0 rfl gRef_r 26 rfl ?_
    refine g_get (v := .int x.2.2.2.2) hC cI8 hM_0 4 (Nat.le_of_ble_eq_true rfl) q1159 rfl dX9_compareTo_2_26 29 rfl ?_
    refine g_aload_n hC dX9_compareTo_2_29 1 rfl gRef_r 30 rfl ?_
    refine g_get (v := .int y.2.2.2.2) hC cI8 hM_1 4 (Nat.le_of_ble_eq_true rfl) q1159 rfl dX9_compareTo_2_30 33 rfl ?_
    refine g_calliP (g_S (As := [.int x.2.2.2.2, .int y.2.2.2.2]) (rest := []) hC msJ11_compare q647 (met_compare l G M x.2.2.2.2 y.2.2.2.2) ⟨rfl, rfl⟩ ⟨(Nat.le_of_ble_eq_true rfl), (Nat.le_of_ble_eq_true rfl)⟩ rfl (Nat.le_of_ble_eq_true rfl) dX9_compareTo_2_33 rfl ⟨(Nat.le_of_ble_eq_true rfl), (Nat.le_of_ble_eq_true rfl)⟩) 36 rfl 0 (Nat.le_of_ble_eq_true rfl) ?_
    exact g_iret (v := cmpI x.2.2.2.2 y.2.2.2.2) hC (fun k9 hk9 => ⟨((if_pos (show frK x = frK y from c_1)).symm), rfl, Nat.le_zero.mp hk9⟩) dX9_compareTo_2_36 (Nat.le_of_ble_eq_true rfl) (Nat.le_of_ble_eq_true rfl)
  · refine g_aload_n hC dX9_compareTo_2_11 0 rfl gRef_r 12 rfl ?_
    refine g_calliP (g_V (As := []) (rest := []) hC mvX9_key q643 (gOf.of hC.K cI8 hM_0) (met_Fr_key l G M a (0, 1) x.1 x.2.1 x.2.2.1 x.2.2.2.1 x.2.2.2.2 hM_0) ⟨rfl, rfl⟩ ⟨(Nat.le_of_ble_eq_true rfl), (Nat.le_of_ble_eq_true rfl)⟩ rfl (Nat.le_of_ble_eq_true rfl) dX9_compareTo_2_12 rfl ⟨(Nat.le_of_ble_eq_true rfl), (Nat.le_of_ble_eq_true rfl)⟩) 15 rfl 0 (Nat.le_of_ble_eq_true rfl) ?_
    refine g_aload_n hC dX9_compareTo_2_15 1 rfl gRef_r 16 rfl ?_
    refine g_calliP (g_V (As := []) (rest := [.int (fr_key x.1 x.2.1)]) hC mvX9_key q643 (gOf.of hC.K cI8 hM_1) (met_Fr_key l G M b (0, 1) y.1 y.2.1 y.2.2.1 y.2.2.2.1 y.2.2.2.2 hM_1) ⟨rfl, rfl⟩ ⟨(Nat.le_of_ble_eq_true rfl), (Nat.le_of_ble_eq_true rfl)⟩ rfl (Nat.le_of_ble_eq_true rfl) dX9_compareTo_2_16 rfl ⟨(Nat.le_of_ble_eq_true rfl), (Nat.le_of_ble_eq_true rfl)⟩) 19 rfl 0 (Nat.le_of_ble_eq_true rfl) ?_
    refine g_calliP (g_S (As := [.int (fr_key x.1 x.2.1), .int (fr_key y.1 y.2.1)]) (rest := []) hC msJ11_compare q647 (met_compare l G M (fr_key x.1 x.2.1) (fr_key y.1 y.2.1)) ⟨rfl, rfl⟩ ⟨(Nat.le_of_ble_eq_true rfl), (Nat.le_of_ble_eq_true rfl)⟩ rfl (Nat.le_of_ble_eq_true rfl) dX9_compareTo_2_19 rfl ⟨(Nat.le_of_ble_eq_true rfl), (Nat.le_of_ble_eq_true rfl)⟩) 22 rfl 0 (Nat.le_of_ble_eq_true rfl) ?_
    refine g_goto hC dX9_compareTo_2_22 36 rfl ?_
    exact g_iret (v := cmpI (fr_key x.1 x.2.1) (fr_key y.1 y.2.1)) hC (fun k9 hk9 => ⟨((if_neg (show ¬ frK x = frK y from c_1)).symm), rfl, Nat.le_zero.mp hk9⟩) dX9_compareTo_2_36 (Nat.le_of_ble_eq_true rfl) (Nat.le_of_ble_eq_true rfl)
set_option maxHeartbeats 4000000 in
theorem met_Fr_cmp (l : Launch) (G : gG) (M : gM) (a : Nat) (b : Nat) (x : frD) (y : frD)  (hM_0 : M a = some ((0, 1), .inr (8, [.int x.1, .int (bI x.2.1), .int x.2.2.1, .int x.2.2.2.1, .int x.2.2.2.2]))) (hM_1 : M b = some ((0, 1), .inr (8, [.int y.1, .int (bI y.2.1), .int y.2.2.1, .int y.2.2.2.1, .int y.2.2.2.2]))) : Met l yX9_compareTo (ws_ yX9_compareTo cX9_compareTo 2 (some .int)) ({ frames := 2, cells := 0, slots := 0, locals := 42 }) (gPc G [.ref a, .ref b] M) (gQi G (fun r9 M9 k9 => r9 = (cmpF x y) ∧ M9 = M ∧ k9 = 0)) 0 0 (gA G) := by
  refine gMet [(0, .ref a), (1, .ref b)] (by decide) (Nat.le_of_ble_eq_true rfl) rfl ?_
  intro p e s m below meth c hC
  refine g_aload_n hC dX9_compareTo_0 0 rfl gRef_r 1 rfl ?_
  refine g_aload_n hC dX9_compareTo_1 1 rfl gRef_r 2 rfl ?_
  refine g_castS hC (hC.at cI8) (gOf.of hC.K cI8 hM_1) q638 dX9_compareTo_2 5 rfl ?_
  refine g_calliP (g_V (As := [.ref b]) (rest := []) hC mvX9_compareTo_2 q639 (gOf.of hC.K cI8 hM_0) (met_Fr_cmp2 l G M a b x y hM_0 hM_1) ⟨rfl, rfl⟩ ⟨(Nat.le_of_ble_eq_true rfl), (Nat.le_of_ble_eq_true rfl)⟩ rfl (Nat.le_of_ble_eq_true rfl) dX9_compareTo_5 rfl ⟨(Nat.le_of_ble_eq_true rfl), (Nat.le_of_ble_eq_true rfl)⟩) 8 rfl 0 (Nat.le_of_ble_eq_true rfl) ?_
  exact g_iret (v := cmpF x y) hC (fun k9 hk9 => ⟨rfl, rfl, Nat.le_zero.mp hk9⟩) dX9_compareTo_8 (Nat.le_of_ble_eq_true rfl) (Nat.le_of_ble_eq_true rfl)
set_option maxHeartbeats 4000000 in
theorem met_Fr_fits (l : Launch) (G : gG) (M : gM) (ln : Int32) (da : Int32)   : Met l yX9_fits (ws_ yX9_fits cX9_fits 2 (some .boolean)) ({ frames := 0, cells := 0, slots := 0, locals := 0 }) (gPc G [.int ln, .int da] M) (gQi G (fun r9 M9 k9 => r9 = (bI (decide (ln = 4 ∨ ushr da (8 * ln) = 0))) ∧ M9 = M ∧ k9 = 0)) 0 0 (gA G) := by
  refine gMet [(0, .int ln), (1, .int da)] (by decide) (Nat.le_of_ble_eq_true rfl) rfl ?_
  intro p e s m below meth c hC
  refine g_iload_n hC dX9_fits_0 0 rfl 1 rfl ?_
  refine g_iconst hC dX9_fits_1 ki_4 2 rfl ?_
  refine g_icmp_eq hC dX9_fits_2 14 rfl 5 rfl (fun c_1 => ?_) (fun c_1 => ?_)
  · refine g_iconst hC dX9_fits_14 ki_1 15 rfl ?_
    refine g_goto hC dX9_fits_15 19 rfl ?_
    exact g_zret (v := 1) hC (by decide) (fun k9 hk9 => ⟨(bI_d (by simp_all)), rfl, Nat.le_zero.mp hk9⟩) dX9_fits_19 (Nat.le_of_ble_eq_true rfl) (Nat.le_of_ble_eq_true rfl)
  · refine g_iload_n hC dX9_fits_5 1 rfl 6 rfl ?_
    refine g_bipush hC dX9_fits_6 kb_8 8 rfl ?_
    refine g_iload_n hC dX9_fits_8 0 rfl 9 rfl ?_
    refine g_imul hC dX9_fits_9 10 rfl ?_
    refine g_iushr (v := ushr da (8 * ln)) hC dX9_fits_10 rfl 11 rfl ?_
    refine g_if_ne hC dX9_fits_11 18 rfl 14 rfl (fun c_2 => ?_) (fun c_2 => ?_)
    · refine g_iconst hC dX9_fits_18 ki_0 19 rfl ?_
      exact g_zret (v := 0) hC (by decide) (fun k9 hk9 => ⟨(bI_nd (by simp_all)), rfl, Nat.le_zero.mp hk9⟩) dX9_fits_19 (Nat.le_of_ble_eq_true rfl) (Nat.le_of_ble_eq_true rfl)
    · refine g_iconst hC dX9_fits_14 ki_1 15 rfl ?_
      refine g_goto hC dX9_fits_15 19 rfl ?_
      exact g_zret (v := 1) hC (by decide) (fun k9 hk9 => ⟨(bI_d (by simp_all)), rfl, Nat.le_zero.mp hk9⟩) dX9_fits_19 (Nat.le_of_ble_eq_true rfl) (Nat.le_of_ble_eq_true rfl)
set_option maxHeartbeats 4000000 in
theorem met_shifted (l : Launch) (G : gG) (M : gM) (r : Int32) (b : Int32)   : Met l yX0_shifted (ws_ yX0_shifted cX0_shifted 4 (some .int)) ({ frames := 0, cells := 0, slots := 0, locals := 0 }) (gPc G [.int r, .int b] M) (gQi G (fun r9 M9 k9 => r9 = (crcS r b) ∧ M9 = M ∧ k9 = 0)) 0 0 (gA G) := by
  refine gMet [(0, .int r), (1, .int b)] (by decide) (Nat.le_of_ble_eq_true rfl) rfl ?_
  intro p e s m below meth c hC
  refine g_iload_n hC dX0_shifted_0 1 rfl 1 rfl ?_
  refine g_iload_n hC dX0_shifted_1 0 rfl 2 rfl ?_
  refine g_bipush hC dX0_shifted_2 kb_14 4 rfl ?_
  refine g_ishr hC dX0_shifted_4 5 rfl ?_
  refine g_iconst hC dX0_shifted_5 ki_1 6 rfl ?_
  refine g_iand hC dX0_shifted_6 7 rfl ?_
  refine g_ixor hC dX0_shifted_7 8 rfl ?_
  refine g_istore_n hC dX0_shifted_8 rfl (Nat.le_of_ble_eq_true rfl) [(2, .int (b ^^^ ((r >>> (14 &&& 31)) &&& 1))), (0, .int r), (1, .int b)] rfl 9 rfl ?_
  refine g_iload_n hC dX0_shifted_9 1 rfl 10 rfl ?_
  refine g_iconst hC dX0_shifted_10 ki_1 11 rfl ?_
  refine g_ishl hC dX0_shifted_11 12 rfl ?_
  refine g_sipush hC dX0_shifted_12 ks_32767 15 rfl ?_
  refine g_iand hC dX0_shifted_15 16 rfl ?_
  refine g_istore_n hC dX0_shifted_16 rfl (Nat.le_of_ble_eq_true rfl) [(3, .int ((r <<< (1 &&& 31)) &&& 32767)), (2, .int (b ^^^ ((r >>> (14 &&& 31)) &&& 1))), (0, .int r), (1, .int b)] rfl 17 rfl ?_
  refine g_iload_n hC dX0_shifted_17 1 rfl 18 rfl ?_
  refine g_iconst hC dX0_shifted_18 ki_1 19 rfl ?_
  refine g_icmp_ne hC dX0_shifted_19 30 rfl 22 rfl (fun c_1 => ?_) (fun c_1 => ?_)
  · refine g_iload_n hC dX0_shifted_30 0 rfl 31 rfl ?_
    exact g_iret (v := (r <<< (1 &&& 31)) &&& 32767) hC (fun k9 hk9 => ⟨(by first | rfl | (simp only [crcS, eq_false c_1, if_true, if_false, true_and, and_true, false_and, and_false, true_or, or_true, false_or, or_false, not_true_eq_false, not_false_eq_true, reduceIte, decide_true, decide_false, Bool.false_eq_true]; done) | (simp only [crcS, eq_false c_1, if_true, if_false, true_and, and_true, false_and, and_false, true_or, or_true, false_or, or_false, not_true_eq_false, not_false_eq_true, reduceIte, decide_true, decide_false, Bool.false_eq_true]; rfl) | (simp only [crcS, c_1, if_true, if_false, true_and, and_true, false_and, and_false, true_or, or_true, false_or, or_false, not_true_eq_false, not_false_eq_true, reduceIte, decide_true, decide_false, Bool.false_eq_true]; done) | (simp only [crcS]; simp only [if_true, if_false, true_and, and_true, false_and, and_false, true_or, or_true, false_or, or_false, not_true_eq_false, not_false_eq_true, reduceIte, decide_true, decide_false, Bool.false_eq_true, eq_false c_1]; done) | (simp only [crcS]; simp only [if_true, if_false, true_and, and_true, false_and, and_false, true_or, or_true, false_or, or_false, not_true_eq_false, not_false_eq_true, reduceIte, decide_true, decide_false, Bool.false_eq_true, c_1]; done) | (simp only [crcS]; simp only [if_true, if_false, true_and, and_true, false_and, and_false, true_or, or_true, false_or, or_false, not_true_eq_false, not_false_eq_true, reduceIte, decide_true, decide_false, Bool.false_eq_true, c_1]; simp only [crcS]; done) | (simp only [crcS, c_1, if_true, if_false, true_and, and_true, false_and, and_false, true_or, or_true, false_or, or_false, not_true_eq_false, not_false_eq_true, reduceIte, decide_true, decide_false, Bool.false_eq_true]; rfl) | (simp only [crcS]; simp only [if_true, if_false, true_and, and_true, false_and, and_false, true_or, or_true, false_or, or_false, not_true_eq_false, not_false_eq_true, reduceIte, decide_true, decide_false, Bool.false_eq_true, c_1]; rfl) | (simp only [crcS]; rfl) | (simp only [crcS, c_1, if_true, if_false, true_and, and_true, false_and, and_false, true_or, or_true, false_or, or_false, not_true_eq_false, not_false_eq_true, reduceIte, decide_true, decide_false, Bool.false_eq_true]; rfl) | (simp_all [crcS]; done)), rfl, Nat.le_zero.mp hk9⟩) dX0_shifted_31 (Nat.le_of_ble_eq_true rfl) (Nat.le_of_ble_eq_true rfl)
  · refine g_iload_n hC dX0_shifted_22 0 rfl 23 rfl ?_
    refine g_sipush hC dX0_shifted_23 ks_17817 26 rfl ?_
    refine g_ixor hC dX0_shifted_26 27 rfl ?_
    refine g_goto hC dX0_shifted_27 31 rfl ?_
    exact g_iret (v := ((r <<< (1 &&& 31)) &&& 32767) ^^^ 17817) hC (fun k9 hk9 => ⟨(by first | rfl | (simp only [crcS, eq_true c_1, if_true, if_false, true_and, and_true, false_and, and_false, true_or, or_true, false_or, or_false, not_true_eq_false, not_false_eq_true, reduceIte, decide_true, decide_false, Bool.false_eq_true]; done) | (simp only [crcS, eq_true c_1, if_true, if_false, true_and, and_true, false_and, and_false, true_or, or_true, false_or, or_false, not_true_eq_false, not_false_eq_true, reduceIte, decide_true, decide_false, Bool.false_eq_true]; rfl) | (simp only [crcS, c_1, if_true, if_false, true_and, and_true, false_and, and_false, true_or, or_true, false_or, or_false, not_true_eq_false, not_false_eq_true, reduceIte, decide_true, decide_false, Bool.false_eq_true]; done) | (simp only [crcS]; simp only [if_true, if_false, true_and, and_true, false_and, and_false, true_or, or_true, false_or, or_false, not_true_eq_false, not_false_eq_true, reduceIte, decide_true, decide_false, Bool.false_eq_true, eq_true c_1]; done) | (simp only [crcS]; simp only [if_true, if_false, true_and, and_true, false_and, and_false, true_or, or_true, false_or, or_false, not_true_eq_false, not_false_eq_true, reduceIte, decide_true, decide_false, Bool.false_eq_true, c_1]; done) | (simp only [crcS]; simp only [if_true, if_false, true_and, and_true, false_and, and_false, true_or, or_true, false_or, or_false, not_true_eq_false, not_false_eq_true, reduceIte, decide_true, decide_false, Bool.false_eq_true, c_1]; simp only [crcS]; done) | (simp only [crcS, c_1, if_true, if_false, true_and, and_true, false_and, and_false, true_or, or_true, false_or, or_false, not_true_eq_false, not_false_eq_true, reduceIte, decide_true, decide_false, Bool.false_eq_true]; rfl) | (simp only [crcS]; simp only [if_true, if_false, true_and, and_true, false_and, and_false, true_or, or_true, false_or, or_false, not_true_eq_false, not_false_eq_true, reduceIte, decide_true, decide_false, Bool.false_eq_true, c_1]; rfl) | (simp only [crcS]; rfl) | (simp only [crcS, c_1, if_true, if_false, true_and, and_true, false_and, and_false, true_or, or_true, false_or, or_false, not_true_eq_false, not_false_eq_true, reduceIte, decide_true, decide_false, Bool.false_eq_true]; rfl) | (simp_all [crcS]; done)), rfl, Nat.le_zero.mp hk9⟩) dX0_shifted_31 (Nat.le_of_ble_eq_true rfl) (Nat.le_of_ble_eq_true rfl)
theorem fr_bareN {rm : Bool} {ln : Nat} : fr_bare rm (nI ln) = nI (byF rm ln + 19) := by
  cases rm with
  | true => rfl
  | false =>
    show (19 : Int32) + (8 : Int32) * nI ln = nI (8 * ln + 19)
    rw [show (8 : Int32) * nI ln = nI (8 * ln) from nI_m (a := 8) (b := ln) rfl]
    exact nI_a (a := 19) (b := 8 * ln) (by omega)
set_option maxHeartbeats 4000000 in
theorem met_Fr_bareN (l : Launch) (G : gG) (M : gM) (h : Nat) (t : Nat × Nat) (id : Int32) (rm : Bool) (ln : Nat) (da : Int32) (od : Int32) (hln : ln ≤ 4) (hM_0 : M h = some (t, .inr (8, [.int id, .int (bI rm), .int (nI ln), .int da, .int od]))) : Met l yX9_bare (ws_ yX9_bare cX9_bare 1 (some .int)) ({ frames := 0, cells := 0, slots := 0, locals := 0 }) (gPc G [.ref h] M) (gQi G (fun r9 M9 k9 => r9 = (nI (byF rm ln + 19)) ∧ M9 = M ∧ k9 = 0)) 0 0 (gA G) := by
  refine gMet [(0, .ref h)] (by decide) (Nat.le_of_ble_eq_true rfl) rfl ?_
  intro p e s m below meth c hC
  refine g_bipush hC dX9_bare_0 kb_19 2 rfl ?_
  refine g_aload_n hC dX9_bare_2 0 rfl gRef_r 3 rfl ?_
  refine g_get (v := .int (bI rm)) hC cI8 hM_0 1 (Nat.le_of_ble_eq_true rfl) q1154 rfl dX9_bare_3 6 rfl ?_
  refine g_if_eq hC dX9_bare_6 13 rfl 9 rfl (fun c_1 => ?_) (fun c_1 => ?_)
  · replace c_1 : rm = false := bB_e0 c_1
    refine g_bipush hC dX9_bare_13 kb_8 15 rfl ?_
    refine g_aload_n hC dX9_bare_15 0 rfl gRef_r 16 rfl ?_
    refine g_get (v := .int (nI ln)) hC cI8 hM_0 2 (Nat.le_of_ble_eq_true rfl) q1155 rfl dX9_bare_16 19 rfl ?_
    refine g_imul hC dX9_bare_19 20 rfl ?_
    refine g_topi (y := nI (8 * ln)) (nI_m (a := 8) (b := ln) (c := (8 * ln)) (by omega)) ?_
    refine g_iadd hC dX9_bare_20 21 rfl ?_
    refine g_topi (y := nI (8 * ln + 19)) (nI_a (a := 19) (b := (8 * ln)) (c := (8 * ln + 19)) (by omega)) ?_
    exact g_iret (v := nI (8 * ln + 19)) hC (fun k9 hk9 => ⟨(by have hrm := c_1; subst hrm; first | rfl | (simp only [byF, if_false, Bool.false_eq_true]; congr 1; omega) | (simp only [byF, if_true])), rfl, Nat.le_zero.mp hk9⟩) dX9_bare_21 (Nat.le_of_ble_eq_true rfl) (Nat.le_of_ble_eq_true rfl)
  · replace c_1 : rm = true := bB_n0 c_1
    refine g_iconst hC dX9_bare_9 ki_0 10 rfl ?_
    refine g_goto hC dX9_bare_10 20 rfl ?_
    refine g_iadd hC dX9_bare_20 21 rfl ?_
    refine g_topi (y := 19) (nI_a (a := 19) (b := 0) (c := 19) (by omega)) ?_
    exact g_iret (v := 19) hC (fun k9 hk9 => ⟨(by have hrm := c_1; subst hrm; first | rfl | (simp only [byF, if_false, Bool.false_eq_true]; congr 1; omega) | (simp only [byF, if_true])), rfl, Nat.le_zero.mp hk9⟩) dX9_bare_21 (Nat.le_of_ble_eq_true rfl) (Nat.le_of_ble_eq_true rfl)
def frB0 (id : Int32) (rm : Bool) (ln : Nat) (da : Int32) (p : Nat) : Int32 := if p = 0 then 0 else if p < 12 then id >>> ((11 - nI p) &&& 31) &&& 1 else if p = 12 then bI rm else if p < 15 then 0 else if p < 19 then nI ln >>> ((18 - nI p) &&& 31) &&& 1 else da >>> ((nI (byF rm ln + 18) - nI p) &&& 31) &&& 1
set_option maxHeartbeats 4000000 in
theorem met_Fr_bare2 (l : Launch) (G : gG) (M : gM) (h : Nat) (t : Nat × Nat) (id : Int32) (rm : Bool) (ln : Nat) (da : Int32) (od : Int32) (pn : Nat) (hln : ln ≤ 4) (hp : pn ≤ 70) (hM_0 : M h = some (t, .inr (8, [.int id, .int (bI rm), .int (nI ln), .int da, .int od]))) : Met l yX9_bare_2 (ws_ yX9_bare_2 cX9_bare_2 2 (some .int)) ({ frames := 1, cells := 0, slots := 0, locals := 20 }) (gPc G [.ref h, .int (nI pn)] M) (gQi G (fun r9 M9 k9 => r9 = (frB0 id rm ln da pn) ∧ M9 = M ∧ k9 = 0)) 0 0 (gA G) := by
  refine gMet [(0, .ref h), (1, .int (nI pn))] (by decide) (Nat.le_of_ble_eq_true rfl) rfl ?_
  intro p e s m below meth c hC
  refine g_iload_n hC dX9_bare_2_0 1 rfl 1 rfl ?_
  refine g_if_ne hC dX9_bare_2_1 6 rfl 4 rfl (fun c_1 => ?_) (fun c_1 => ?_)
  · replace c_1 : ¬ pn = 0 := nn_neq (by omega) (by omega) c_1
    refine g_iload_n hC dX9_bare_2_6 1 rfl 7 rfl ?_
    refine g_bipush hC dX9_bare_2_7 kb_12 9 rfl ?_
    refine g_icmp_ge hC dX9_bare_2_9 24 rfl 12 rfl (fun c_2 => ?_) (fun c_2 => ?_)
    · replace c_2 : 12 ≤ pn := nn_le (by omega) (by omega) c_2
      refine g_iload_n hC dX9_bare_2_24 1 rfl 25 rfl ?_
      refine g_bipush hC dX9_bare_2_25 kb_12 27 rfl ?_
      refine g_icmp_ne hC dX9_bare_2_27 43 rfl 30 rfl (fun c_3 => ?_) (fun c_3 => ?_)
      · replace c_3 : ¬ pn = 12 := nn_neq (by omega) (by omega) c_3
        refine g_iload_n hC dX9_bare_2_43 1 rfl 44 rfl ?_
        refine g_bipush hC dX9_bare_2_44 kb_15 46 rfl ?_
        refine g_icmp_ge hC dX9_bare_2_46 51 rfl 49 rfl (fun c_4 => ?_) (fun c_4 => ?_)
        · replace c_4 : 15 ≤ pn := nn_le (by omega) (by omega) c_4
          refine g_iload_n hC dX9_bare_2_51 1 rfl 52 rfl ?_
          refine g_bipush hC dX9_bare_2_52 kb_19 54 rfl ?_
          refine g_icmp_ge hC dX9_bare_2_54 71 rfl 57 rfl (fun c_5 => ?_) (fun c_5 => ?_)
          · replace c_5 : 19 ≤ pn := nn_le (by omega) (by omega) c_5
            refine g_aload_n hC dX9_bare_2_71 0 rfl gRef_r 72 rfl ?_
            refine g_get (v := .int da) hC cI8 hM_0 3 (Nat.le_of_ble_eq_true rfl) q1157 rfl dX9_bare_2_72 75 rfl ?_
            refine g_aload_n hC dX9_bare_2_75 0 rfl gRef_r 76 rfl ?_
            refine g_calliP (g_V (As := []) (rest := [.int da]) hC mvX9_bare q1278 (gOf.of hC.K cI8 hM_0) (met_Fr_bareN l G M h t id rm ln da od hln hM_0) ⟨rfl, rfl⟩ ⟨(Nat.le_of_ble_eq_true rfl), (Nat.le_of_ble_eq_true rfl)⟩ rfl (Nat.le_of_ble_eq_true rfl) dX9_bare_2_76 rfl ⟨(Nat.le_of_ble_eq_true rfl), (Nat.le_of_ble_eq_true rfl)⟩) 79 rfl 0 (Nat.le_of_ble_eq_true rfl) ?_
            refine g_iconst hC dX9_bare_2_79 ki_1 80 rfl ?_
            refine g_isub hC dX9_bare_2_80 81 rfl ?_
            refine g_topi (y := nI (byF rm ln + 18)) (nI_s (a := (byF rm ln + 19)) (b := 1) (c := (byF rm ln + 18)) (by omega)) ?_
            refine g_iload_n hC dX9_bare_2_81 1 rfl 82 rfl ?_
            refine g_isub hC dX9_bare_2_82 83 rfl ?_
            refine g_ishr hC dX9_bare_2_83 84 rfl ?_
            refine g_iconst hC dX9_bare_2_84 ki_1 85 rfl ?_
            refine g_iand hC dX9_bare_2_85 86 rfl ?_
            exact g_iret (v := (da >>> (((nI (byF rm ln + 18)) - (nI pn)) &&& 31)) &&& 1) hC (fun k9 hk9 => ⟨(by simp only [frB0, eq_false c_1, eq_false (Nat.not_lt.mpr c_2), eq_false c_3, eq_false (Nat.not_lt.mpr c_4), eq_false (Nat.not_lt.mpr c_5), if_true, if_false, true_and, and_true, false_and, and_false, true_or, or_true, false_or, or_false, not_true_eq_false, not_false_eq_true, reduceIte, decide_true, decide_false, Bool.false_eq_true]; first | done | rfl), rfl, Nat.le_zero.mp hk9⟩) dX9_bare_2_86 (Nat.le_of_ble_eq_true rfl) (Nat.le_of_ble_eq_true rfl)
          · replace c_5 : pn < 19 := nn_nle (by omega) (by omega) c_5
            refine g_aload_n hC dX9_bare_2_57 0 rfl gRef_r 58 rfl ?_
            refine g_get (v := .int (nI ln)) hC cI8 hM_0 2 (Nat.le_of_ble_eq_true rfl) q1155 rfl dX9_bare_2_58 61 rfl ?_
            refine g_bipush hC dX9_bare_2_61 kb_18 63 rfl ?_
            refine g_iload_n hC dX9_bare_2_63 1 rfl 64 rfl ?_
            refine g_isub hC dX9_bare_2_64 65 rfl ?_
            refine g_ishr hC dX9_bare_2_65 66 rfl ?_
            refine g_iconst hC dX9_bare_2_66 ki_1 67 rfl ?_
            refine g_iand hC dX9_bare_2_67 68 rfl ?_
            refine g_goto hC dX9_bare_2_68 86 rfl ?_
            exact g_iret (v := ((nI ln) >>> ((18 - (nI pn)) &&& 31)) &&& 1) hC (fun k9 hk9 => ⟨(by simp only [frB0, eq_false c_1, eq_false (Nat.not_lt.mpr c_2), eq_false c_3, eq_false (Nat.not_lt.mpr c_4), eq_true c_5, if_true, if_false, true_and, and_true, false_and, and_false, true_or, or_true, false_or, or_false, not_true_eq_false, not_false_eq_true, reduceIte, decide_true, decide_false, Bool.false_eq_true]; first | done | rfl), rfl, Nat.le_zero.mp hk9⟩) dX9_bare_2_86 (Nat.le_of_ble_eq_true rfl) (Nat.le_of_ble_eq_true rfl)
        · replace c_4 : pn < 15 := nn_nle (by omega) (by omega) c_4
          refine g_iconst hC dX9_bare_2_49 ki_0 50 rfl ?_
          exact g_iret (v := 0) hC (fun k9 hk9 => ⟨(by simp only [frB0, eq_false c_1, eq_false (Nat.not_lt.mpr c_2), eq_false c_3, eq_true c_4, if_true, if_false, true_and, and_true, false_and, and_false, true_or, or_true, false_or, or_false, not_true_eq_false, not_false_eq_true, reduceIte, decide_true, decide_false, Bool.false_eq_true]; first | done | rfl), rfl, Nat.le_zero.mp hk9⟩) dX9_bare_2_50 (Nat.le_of_ble_eq_true rfl) (Nat.le_of_ble_eq_true rfl)
      · replace c_3 : pn = 12 := nn_eq (by omega) (by omega) c_3
        refine g_aload_n hC dX9_bare_2_30 0 rfl gRef_r 31 rfl ?_
        refine g_get (v := .int (bI rm)) hC cI8 hM_0 1 (Nat.le_of_ble_eq_true rfl) q1154 rfl dX9_bare_2_31 34 rfl ?_
        refine g_if_eq hC dX9_bare_2_34 41 rfl 37 rfl (fun c_6 => ?_) (fun c_6 => ?_)
        · replace c_6 : rm = false := bB_e0 c_6
          refine g_iconst hC dX9_bare_2_41 ki_0 42 rfl ?_
          exact g_iret (v := 0) hC (fun k9 hk9 => ⟨(by rw [c_6]; simp only [frB0, eq_false c_1, eq_false (Nat.not_lt.mpr c_2), eq_true c_3, if_true, if_false, true_and, and_true, false_and, and_false, true_or, or_true, false_or, or_false, not_true_eq_false, not_false_eq_true, reduceIte, decide_true, decide_false, Bool.false_eq_true]; first | done | rfl), rfl, Nat.le_zero.mp hk9⟩) dX9_bare_2_42 (Nat.le_of_ble_eq_true rfl) (Nat.le_of_ble_eq_true rfl)
        · replace c_6 : rm = true := bB_n0 c_6
          refine g_iconst hC dX9_bare_2_37 ki_1 38 rfl ?_
          refine g_goto hC dX9_bare_2_38 42 rfl ?_
          exact g_iret (v := 1) hC (fun k9 hk9 => ⟨(by rw [c_6]; simp only [frB0, eq_false c_1, eq_false (Nat.not_lt.mpr c_2), eq_true c_3, if_true, if_false, true_and, and_true, false_and, and_false, true_or, or_true, false_or, or_false, not_true_eq_false, not_false_eq_true, reduceIte, decide_true, decide_false, Bool.false_eq_true]; first | done | rfl), rfl, Nat.le_zero.mp hk9⟩) dX9_bare_2_42 (Nat.le_of_ble_eq_true rfl) (Nat.le_of_ble_eq_true rfl)
    · replace c_2 : pn < 12 := nn_nle (by omega) (by omega) c_2
      refine g_aload_n hC dX9_bare_2_12 0 rfl gRef_r 13 rfl ?_
      refine g_get (v := .int id) hC cI8 hM_0 0 (Nat.le_of_ble_eq_true rfl) q1152 rfl dX9_bare_2_13 16 rfl ?_
      refine g_bipush hC dX9_bare_2_16 kb_11 18 rfl ?_
      refine g_iload_n hC dX9_bare_2_18 1 rfl 19 rfl ?_
      refine g_isub hC dX9_bare_2_19 20 rfl ?_
      refine g_ishr hC dX9_bare_2_20 21 rfl ?_
      refine g_iconst hC dX9_bare_2_21 ki_1 22 rfl ?_
      refine g_iand hC dX9_bare_2_22 23 rfl ?_
      exact g_iret (v := (id >>> ((11 - (nI pn)) &&& 31)) &&& 1) hC (fun k9 hk9 => ⟨(by simp only [frB0, eq_false c_1, eq_true c_2, if_true, if_false, true_and, and_true, false_and, and_false, true_or, or_true, false_or, or_false, not_true_eq_false, not_false_eq_true, reduceIte, decide_true, decide_false, Bool.false_eq_true]; first | done | rfl), rfl, Nat.le_zero.mp hk9⟩) dX9_bare_2_23 (Nat.le_of_ble_eq_true rfl) (Nat.le_of_ble_eq_true rfl)
  · replace c_1 : pn = 0 := nn_eq (by omega) (by omega) c_1
    refine g_iconst hC dX9_bare_2_4 ki_0 5 rfl ?_
    exact g_iret (v := 0) hC (fun k9 hk9 => ⟨(by simp only [frB0, eq_true c_1, if_true, if_false, true_and, and_true, false_and, and_false, true_or, or_true, false_or, or_false, not_true_eq_false, not_false_eq_true, reduceIte, decide_true, decide_false, Bool.false_eq_true]; first | done | rfl), rfl, Nat.le_zero.mp hk9⟩) dX9_bare_2_5 (Nat.le_of_ble_eq_true rfl) (Nat.le_of_ble_eq_true rfl)
def frCrc (id : Int32) (rm : Bool) (ln : Nat) (da : Int32) : Int32 := crcT (frB0 id rm ln da) 0 (byF rm ln + 19)
def frBT (id : Int32) (rm : Bool) (ln : Nat) (da : Int32) (p : Nat) : Int32 := if p < byF rm ln + 19 then frB0 id rm ln da p else frCrc id rm ln da >>> ((nI (byF rm ln + 33) - nI p) &&& 31) &&& 1
set_option maxHeartbeats 4000000 in
theorem met_Fr_crc (l : Launch) (G : gG) (M : gM) (h : Nat) (t : Nat × Nat) (id : Int32) (rm : Bool) (ln : Nat) (da : Int32) (od : Int32) (hln : ln ≤ 4) (hM_0 : M h = some (t, .inr (8, [.int id, .int (bI rm), .int (nI ln), .int da, .int od]))) : Met l yX9_crc (ws_ yX9_crc cX9_crc 3 (some .int)) ({ frames := 2, cells := 0, slots := 0, locals := 41 }) (gPc G [.ref h] M) (gQi G (fun r9 M9 k9 => r9 = (frCrc id rm ln da) ∧ M9 = M ∧ k9 = 0)) 0 0 (gA G) := by
  refine gMet [(0, .ref h)] (by decide) (Nat.le_of_ble_eq_true rfl) rfl ?_
  intro p e s m below meth c hC
  have hby := byF_le (rm := rm) hln
  refine g_iconst hC dX9_crc_0 ki_0 1 rfl ?_
  refine g_istore_n hC dX9_crc_1 rfl (Nat.le_of_ble_eq_true rfl) [(1, .int 0), (0, .ref h)] rfl 2 rfl ?_
  refine g_iconst hC dX9_crc_2 ki_0 3 rfl ?_
  refine g_istore_n hC dX9_crc_3 rfl (Nat.le_of_ble_eq_true rfl) [(2, .int 0), (1, .int 0), (0, .ref h)] rfl 4 rfl ?_
  have loop4 : ∀ (n9 : Nat) (i : Nat) (r : Int32), (hi : i ≤ byF rm ln + 19) → (hr : r = crcT (frB0 id rm ln da) 0 i) → byF rm ln + 19 - i < n9 → (M h = some (t, .inr (8, [.int id, .int (bI rm), .int (nI ln), .int da, .int od]))) → gJ p l e ({ frames := 2, cells := 0, slots := 0, locals := 41 } : Room) s m ([.ref h] : List Value).toArray below meth c G 3 (MQ below (gQi G (fun r9 M9 k9 => r9 = (frCrc id rm ln da) ∧ M9 = M ∧ k9 = 0)) ([.ref h] : List Value).toArray s 0 0 (gA G)) 0 0 M 4 [(0, .ref h), (1, .int r), (2, .int (nI i))] [] := by
    intro n9
    induction n9 with
    | zero => intro i r hi hr hmu; exact absurd hmu (Nat.not_lt_zero _)
    | succ n9 ih =>
      intro i r hi hr hmu hL_0
      refine g_iload_n hC dX9_crc_4 2 rfl 5 rfl ?_
      refine g_aload_n hC dX9_crc_5 0 rfl gRef_r 6 rfl ?_
      refine g_calliP (g_V (As := []) (rest := [.int (nI i)]) hC mvX9_bare q1278 (gOf.of hC.K cI8 hL_0) (met_Fr_bareN l G M h t id rm ln da od hln hL_0) ⟨rfl, rfl⟩ ⟨(Nat.le_of_ble_eq_true rfl), (Nat.le_of_ble_eq_true rfl)⟩ rfl (Nat.le_of_ble_eq_true rfl) dX9_crc_6 rfl ⟨(Nat.le_of_ble_eq_true rfl), (Nat.le_of_ble_eq_true rfl)⟩) 9 rfl 0 (Nat.le_of_ble_eq_true rfl) ?_
      refine g_icmp_ge hC dX9_crc_9 28 rfl 12 rfl (fun c_1 => ?_) (fun c_1 => ?_)
      · replace c_1 : byF rm ln + 19 ≤ i := nn_le (by omega) (by omega) c_1
        refine g_iload_n hC dX9_crc_28 1 rfl 29 rfl ?_
        exact g_iret (v := r) hC (fun k9 hk9 => ⟨(by rw [hr, show i = byF rm ln + 19 by omega]; rfl), rfl, Nat.le_zero.mp hk9⟩) dX9_crc_29 (Nat.le_of_ble_eq_true rfl) (Nat.le_of_ble_eq_true rfl)
      · replace c_1 : i < byF rm ln + 19 := nn_nle (by omega) (by omega) c_1
        refine g_iload_n hC dX9_crc_12 1 rfl 13 rfl ?_
        refine g_aload_n hC dX9_crc_13 0 rfl gRef_r 14 rfl ?_
        refine g_iload_n hC dX9_crc_14 2 rfl 15 rfl ?_
        refine g_calliP (g_V (As := [.int (nI i)]) (rest := [.int r]) hC mvX9_bare_2 q1364 (gOf.of hC.K cI8 hL_0) (met_Fr_bare2 l G M h t id rm ln da od i hln (by first | assumption | decide | omega | simp_all) hL_0) ⟨rfl, rfl⟩ ⟨(Nat.le_of_ble_eq_true rfl), (Nat.le_of_ble_eq_true rfl)⟩ rfl (Nat.le_of_ble_eq_true rfl) dX9_crc_15 rfl ⟨(Nat.le_of_ble_eq_true rfl), (Nat.le_of_ble_eq_true rfl)⟩) 18 rfl 0 (Nat.le_of_ble_eq_true rfl) ?_
        refine g_calliP (g_SN (As := [.int r, .int (frB0 id rm ln da i)]) (rest := []) hC msX0_shifted q1372 (met_shifted l G M r (frB0 id rm ln da i)) ⟨rfl, rfl⟩ ⟨(Nat.le_of_ble_eq_true rfl), (Nat.le_of_ble_eq_true rfl)⟩ rfl (Nat.le_of_ble_eq_true rfl) dX9_crc_18 rfl ⟨(Nat.le_of_ble_eq_true rfl), (Nat.le_of_ble_eq_true rfl)⟩) 21 rfl 0 (Nat.le_of_ble_eq_true rfl) ?_
        refine g_istore_n hC dX9_crc_21 rfl (Nat.le_of_ble_eq_true rfl) [(1, .int (crcS r (frB0 id rm ln da i))), (0, .ref h), (2, .int (nI i))] rfl 22 rfl ?_
        refine g_iinc hC dX9_crc_22 2 rfl (v := nI (i + 1)) (by rw [ki_1]; exact nI_a (a := i) (b := 1) (c := (i + 1)) (by omega)) (Nat.le_of_ble_eq_true rfl) [(2, .int (nI (i + 1))), (1, .int (crcS r (frB0 id rm ln da i))), (0, .ref h)] rfl 25 rfl ?_
        refine g_goto hC dX9_crc_25 4 rfl ?_
        refine gJ.sub (M' := M) [2, 1, 0] rfl ?_
        exact ih (i + 1) (crcS r (frB0 id rm ln da i)) (by omega) (by rw [hr]; show _ = crcS (crcT (frB0 id rm ln da) 0 i) (frB0 id rm ln da (0 + i)); rw [Nat.zero_add]) (by omega) hL_0
  refine gJ.sub (M' := M) [2, 1, 0] rfl ?_
  exact loop4 _ 0 0 (by omega) rfl (Nat.lt_succ_self _) hM_0
set_option maxHeartbeats 4000000 in
theorem met_Fr_basicN (l : Launch) (G : gG) (M : gM) (h : Nat) (t : Nat × Nat) (id : Int32) (rm : Bool) (ln : Nat) (da : Int32) (od : Int32) (hln : ln ≤ 4) (hM_0 : M h = some (t, .inr (8, [.int id, .int (bI rm), .int (nI ln), .int da, .int od]))) : Met l yX9_basic (ws_ yX9_basic cX9_basic 1 (some .int)) ({ frames := 1, cells := 0, slots := 0, locals := 20 }) (gPc G [.ref h] M) (gQi G (fun r9 M9 k9 => r9 = (nI (byF rm ln + 34)) ∧ M9 = M ∧ k9 = 0)) 0 0 (gA G) := by
  refine gMet [(0, .ref h)] (by decide) (Nat.le_of_ble_eq_true rfl) rfl ?_
  intro p e s m below meth c hC
  have hby := byF_le (rm := rm) hln
  refine g_aload_n hC dX9_basic_0 0 rfl gRef_r 1 rfl ?_
  refine g_calliP (g_V (As := []) (rest := []) hC mvX9_bare q1278 (gOf.of hC.K cI8 hM_0) (met_Fr_bareN l G M h t id rm ln da od hln hM_0) ⟨rfl, rfl⟩ ⟨(Nat.le_of_ble_eq_true rfl), (Nat.le_of_ble_eq_true rfl)⟩ rfl (Nat.le_of_ble_eq_true rfl) dX9_basic_1 rfl ⟨(Nat.le_of_ble_eq_true rfl), (Nat.le_of_ble_eq_true rfl)⟩) 4 rfl 0 (Nat.le_of_ble_eq_true rfl) ?_
  refine g_bipush hC dX9_basic_4 kb_15 6 rfl ?_
  refine g_iadd hC dX9_basic_6 7 rfl ?_
  refine g_topi (y := nI (byF rm ln + 34)) (nI_a (a := (byF rm ln + 19)) (b := 15) (c := (byF rm ln + 34)) (by omega)) ?_
  exact g_iret (v := nI (byF rm ln + 34)) hC (fun k9 hk9 => ⟨rfl, rfl, Nat.le_zero.mp hk9⟩) dX9_basic_7 (Nat.le_of_ble_eq_true rfl) (Nat.le_of_ble_eq_true rfl)
set_option maxHeartbeats 4000000 in
theorem met_Fr_bit (l : Launch) (G : gG) (M : gM) (h : Nat) (t : Nat × Nat) (id : Int32) (rm : Bool) (ln : Nat) (da : Int32) (od : Int32) (pn : Nat) (hln : ln ≤ 4) (hp : pn ≤ 70) (hM_0 : M h = some (t, .inr (8, [.int id, .int (bI rm), .int (nI ln), .int da, .int od]))) : Met l yX9_bit (ws_ yX9_bit cX9_bit 2 (some .int)) ({ frames := 3, cells := 0, slots := 0, locals := 63 }) (gPc G [.ref h, .int (nI pn)] M) (gQi G (fun r9 M9 k9 => r9 = (frBT id rm ln da pn) ∧ M9 = M ∧ k9 = 0)) 0 0 (gA G) := by
  refine gMet [(0, .ref h), (1, .int (nI pn))] (by decide) (Nat.le_of_ble_eq_true rfl) rfl ?_
  intro p e s m below meth c hC
  have hby := byF_le (rm := rm) hln
  refine g_iload_n hC dX9_bit_0 1 rfl 1 rfl ?_
  refine g_aload_n hC dX9_bit_1 0 rfl gRef_r 2 rfl ?_
  refine g_calliP (g_V (As := []) (rest := [.int (nI pn)]) hC mvX9_bare q1278 (gOf.of hC.K cI8 hM_0) (met_Fr_bareN l G M h t id rm ln da od hln hM_0) ⟨rfl, rfl⟩ ⟨(Nat.le_of_ble_eq_true rfl), (Nat.le_of_ble_eq_true rfl)⟩ rfl (Nat.le_of_ble_eq_true rfl) dX9_bit_2 rfl ⟨(Nat.le_of_ble_eq_true rfl), (Nat.le_of_ble_eq_true rfl)⟩) 5 rfl 0 (Nat.le_of_ble_eq_true rfl) ?_
  refine g_icmp_ge hC dX9_bit_5 16 rfl 8 rfl (fun c_1 => ?_) (fun c_1 => ?_)
  · replace c_1 : byF rm ln + 19 ≤ pn := nn_le (by omega) (by omega) c_1
    refine g_aload_n hC dX9_bit_16 0 rfl gRef_r 17 rfl ?_
    refine g_calliP (g_V (As := []) (rest := []) hC mvX9_crc q1368 (gOf.of hC.K cI8 hM_0) (met_Fr_crc l G M h t id rm ln da od hln hM_0) ⟨rfl, rfl⟩ ⟨(Nat.le_of_ble_eq_true rfl), (Nat.le_of_ble_eq_true rfl)⟩ rfl (Nat.le_of_ble_eq_true rfl) dX9_bit_17 rfl ⟨(Nat.le_of_ble_eq_true rfl), (Nat.le_of_ble_eq_true rfl)⟩) 20 rfl 0 (Nat.le_of_ble_eq_true rfl) ?_
    refine g_aload_n hC dX9_bit_20 0 rfl gRef_r 21 rfl ?_
    refine g_calliP (g_V (As := []) (rest := [.int (frCrc id rm ln da)]) hC mvX9_basic q1375 (gOf.of hC.K cI8 hM_0) (met_Fr_basicN l G M h t id rm ln da od hln hM_0) ⟨rfl, rfl⟩ ⟨(Nat.le_of_ble_eq_true rfl), (Nat.le_of_ble_eq_true rfl)⟩ rfl (Nat.le_of_ble_eq_true rfl) dX9_bit_21 rfl ⟨(Nat.le_of_ble_eq_true rfl), (Nat.le_of_ble_eq_true rfl)⟩) 24 rfl 0 (Nat.le_of_ble_eq_true rfl) ?_
    refine g_iconst hC dX9_bit_24 ki_1 25 rfl ?_
    refine g_isub hC dX9_bit_25 26 rfl ?_
    refine g_topi (y := nI (byF rm ln + 33)) (nI_s (a := (byF rm ln + 34)) (b := 1) (c := (byF rm ln + 33)) (by omega)) ?_
    refine g_iload_n hC dX9_bit_26 1 rfl 27 rfl ?_
    refine g_isub hC dX9_bit_27 28 rfl ?_
    refine g_ishr hC dX9_bit_28 29 rfl ?_
    refine g_iconst hC dX9_bit_29 ki_1 30 rfl ?_
    refine g_iand hC dX9_bit_30 31 rfl ?_
    exact g_iret (v := ((frCrc id rm ln da) >>> (((nI (byF rm ln + 33)) - (nI pn)) &&& 31)) &&& 1) hC (fun k9 hk9 => ⟨(by simp only [frBT]; rw [if_neg (Nat.not_lt.mpr c_1)]), rfl, Nat.le_zero.mp hk9⟩) dX9_bit_31 (Nat.le_of_ble_eq_true rfl) (Nat.le_of_ble_eq_true rfl)
  · replace c_1 : pn < byF rm ln + 19 := nn_nle (by omega) (by omega) c_1
    refine g_aload_n hC dX9_bit_8 0 rfl gRef_r 9 rfl ?_
    refine g_iload_n hC dX9_bit_9 1 rfl 10 rfl ?_
    refine g_calliP (g_V (As := [.int (nI pn)]) (rest := []) hC mvX9_bare_2 q1364 (gOf.of hC.K cI8 hM_0) (met_Fr_bare2 l G M h t id rm ln da od pn hln hp hM_0) ⟨rfl, rfl⟩ ⟨(Nat.le_of_ble_eq_true rfl), (Nat.le_of_ble_eq_true rfl)⟩ rfl (Nat.le_of_ble_eq_true rfl) dX9_bit_10 rfl ⟨(Nat.le_of_ble_eq_true rfl), (Nat.le_of_ble_eq_true rfl)⟩) 13 rfl 0 (Nat.le_of_ble_eq_true rfl) ?_
    refine g_goto hC dX9_bit_13 31 rfl ?_
    exact g_iret (v := frB0 id rm ln da pn) hC (fun k9 hk9 => ⟨(by simp only [frBT]; rw [if_pos c_1]), rfl, Nat.le_zero.mp hk9⟩) dX9_bit_31 (Nat.le_of_ble_eq_true rfl) (Nat.le_of_ble_eq_true rfl)
