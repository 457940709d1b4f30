/-! the public methods: worstBits, append, clearText -/
set_option maxRecDepth 100000
set_option maxHeartbeats 4000000 in
theorem met_X_worst (l : Launch) (G : gG) (M : gM) (x : Int32)   : Met l yX0_worst (ws_ yX0_worst cX0_worst 1 (some .int)) ({ frames := 0, cells := 0, slots := 0, locals := 0 }) (gPc G [.int x] M) (gQi G (fun r9 M9 k9 => r9 = (worstF x) ∧ M9 = M ∧ k9 = 0)) 0 0 (gA G) := by
  refine gMet [(0, .int x)] (by decide) (Nat.le_of_ble_eq_true rfl) rfl ?_
  intro p e s m below meth c hC
  refine g_bipush hC dX0_worst_0 kb_47 2 rfl ?_
  refine g_bipush hC dX0_worst_2 kb_8 4 rfl ?_
  refine g_iload_n hC dX0_worst_4 0 rfl 5 rfl ?_
  refine g_imul hC dX0_worst_5 6 rfl ?_
  refine g_iadd hC dX0_worst_6 7 rfl ?_
  refine g_bipush hC dX0_worst_7 kb_33 9 rfl ?_
  refine g_bipush hC dX0_worst_9 kb_8 11 rfl ?_
  refine g_iload_n hC dX0_worst_11 0 rfl 12 rfl ?_
  refine g_imul hC dX0_worst_12 13 rfl ?_
  refine g_iadd hC dX0_worst_13 14 rfl ?_
  refine g_iconst hC dX0_worst_14 ki_4 15 rfl ?_
  refine g_idiv hC dX0_worst_15 (by decide) 16 rfl ?_
  refine g_iadd hC dX0_worst_16 17 rfl ?_
  exact g_iret (v := (47 + (8 * x)) + ((33 + (8 * x)) / 4)) hC (fun k9 hk9 => ⟨(by first | rfl | (simp only [worstF, if_true, if_false, true_and, and_true, false_and, and_false, true_or, or_true, false_or, or_false, not_true_eq_false, not_false_eq_true, reduceIte, decide_true, decide_false, Bool.false_eq_true]; done) | (simp only [worstF, if_true, if_false, true_and, and_true, false_and, and_false, true_or, or_true, false_or, or_false, not_true_eq_false, not_false_eq_true, reduceIte, decide_true, decide_false, Bool.false_eq_true]; rfl) | (simp only [worstF, if_true, if_false, true_and, and_true, false_and, and_false, true_or, or_true, false_or, or_false, not_true_eq_false, not_false_eq_true, reduceIte, decide_true, decide_false, Bool.false_eq_true]; done) | (simp only [worstF]; simp only [if_true, if_false, true_and, and_true, false_and, and_false, true_or, or_true, false_or, or_false, not_true_eq_false, not_false_eq_true, reduceIte, decide_true, decide_false, Bool.false_eq_true]; done) | (simp only [worstF]; simp only [if_true, if_false, true_and, and_true, false_and, and_false, true_or, or_true, false_or, or_false, not_true_eq_false, not_false_eq_true, reduceIte, decide_true, decide_false, Bool.false_eq_true]; done) | (simp only [worstF]; simp only [if_true, if_false, true_and, and_true, false_and, and_false, true_or, or_true, false_or, or_false, not_true_eq_false, not_false_eq_true, reduceIte, decide_true, decide_false, Bool.false_eq_true]; simp only [worstF]; done) | (simp only [worstF, if_true, if_false, true_and, and_true, false_and, and_false, true_or, or_true, false_or, or_false, not_true_eq_false, not_false_eq_true, reduceIte, decide_true, decide_false, Bool.false_eq_true]; rfl) | (simp only [worstF]; simp only [if_true, if_false, true_and, and_true, false_and, and_false, true_or, or_true, false_or, or_false, not_true_eq_false, not_false_eq_true, reduceIte, decide_true, decide_false, Bool.false_eq_true]; rfl) | (simp only [worstF]; rfl) | (simp only [worstF, if_true, if_false, true_and, and_true, false_and, and_false, true_or, or_true, false_or, or_false, not_true_eq_false, not_false_eq_true, reduceIte, decide_true, decide_false, Bool.false_eq_true]; rfl) | (simp_all [worstF]; done)), rfl, Nat.le_zero.mp hk9⟩) dX0_worst_17 (Nat.le_of_ble_eq_true rfl) (Nat.le_of_ble_eq_true rfl)
set_option maxHeartbeats 4000000 in
theorem met_X_worstBits (l : Launch) (G : gG) (M : gM) (xa : Nat) (x : Int32)   : Met l yX0_worstBits (ws_ yX0_worstBits cX0_worstBits 2 (some .int)) ({ frames := 1, cells := 0, slots := 0, locals := 25 }) (gPc G [.ref xa, .int x] M) (gQi G (fun r9 M9 k9 => r9 = (if 0 ≤ x ∧ x ≤ 4 then worstF x else -2) ∧ M9 = M ∧ k9 = 0)) 0 0 (gA G) := by
  refine gMet [(0, .ref xa), (1, .int x)] (by decide) (Nat.le_of_ble_eq_true rfl) rfl ?_
  intro p e s m below meth c hC
  refine g_iload_n hC dX0_worstBits_0 1 rfl 1 rfl ?_
  refine g_i2l hC dX0_worstBits_1 2 rfl ?_
  refine g_lconst (v := 0) hC dX0_worstBits_2 (by decide) 3 rfl ?_
  refine g_ldc2 hC q562 dX0_worstBits_3 6 rfl ?_
  refine g_calliP (g_S (As := [.long (Int32.toInt64 x), .long 0, .long 4]) (rest := []) hC msX0_isIn q541 (met_isIn l G M (Int32.toInt64 x) 0 4) ⟨rfl, rfl⟩ ⟨(Nat.le_of_ble_eq_true rfl), (Nat.le_of_ble_eq_true rfl)⟩ rfl (Nat.le_of_ble_eq_true rfl) dX0_worstBits_6 rfl ⟨(Nat.le_of_ble_eq_true rfl), (Nat.le_of_ble_eq_true rfl)⟩) 9 rfl 0 (Nat.le_of_ble_eq_true rfl) ?_
  refine g_topi (y := bI (decide (0 ≤ x ∧ x ≤ 4))) (isIn_c 0 4 (by decide) (by decide)) ?_
  refine g_if_eq hC dX0_worstBits_9 19 rfl 12 rfl (fun c_1 => ?_) (fun c_1 => ?_)
  · replace c_1 := bId_0 c_1
    refine g_bipush hC dX0_worstBits_19 kb_m2 21 rfl ?_
    exact g_iret (v := -2) hC (fun k9 hk9 => ⟨(by first | rfl | (simp only [eq_false c_1, if_true, if_false, true_and, and_true, false_and, and_false, true_or, or_true, false_or, or_false, not_true_eq_false, not_false_eq_true, reduceIte, decide_true, decide_false, Bool.false_eq_true]; done) | (simp only [eq_false c_1, if_true, if_false, true_and, and_true, false_and, and_false, true_or, or_true, false_or, or_false, not_true_eq_false, not_false_eq_true, reduceIte, decide_true, decide_false, Bool.false_eq_true]; rfl) | (simp only [c_1, if_true, if_false, true_and, and_true, false_and, and_false, true_or, or_true, false_or, or_false, not_true_eq_false, not_false_eq_true, reduceIte, decide_true, decide_false, Bool.false_eq_true]; done) | (simp only []; simp only [if_true, if_false, true_and, and_true, false_and, and_false, true_or, or_true, false_or, or_false, not_true_eq_false, not_false_eq_true, reduceIte, decide_true, decide_false, Bool.false_eq_true, eq_false c_1]; done) | (simp only []; simp only [if_true, if_false, true_and, and_true, false_and, and_false, true_or, or_true, false_or, or_false, not_true_eq_false, not_false_eq_true, reduceIte, decide_true, decide_false, Bool.false_eq_true, c_1]; done) | (simp only []; simp only [if_true, if_false, true_and, and_true, false_and, and_false, true_or, or_true, false_or, or_false, not_true_eq_false, not_false_eq_true, reduceIte, decide_true, decide_false, Bool.false_eq_true, c_1]; simp only []; done) | (simp only [c_1, if_true, if_false, true_and, and_true, false_and, and_false, true_or, or_true, false_or, or_false, not_true_eq_false, not_false_eq_true, reduceIte, decide_true, decide_false, Bool.false_eq_true]; rfl) | (simp only []; simp only [if_true, if_false, true_and, and_true, false_and, and_false, true_or, or_true, false_or, or_false, not_true_eq_false, not_false_eq_true, reduceIte, decide_true, decide_false, Bool.false_eq_true, c_1]; rfl) | (simp only []; rfl) | (simp only [c_1, if_true, if_false, true_and, and_true, false_and, and_false, true_or, or_true, false_or, or_false, not_true_eq_false, not_false_eq_true, reduceIte, decide_true, decide_false, Bool.false_eq_true]; rfl) | (simp_all []; done)), rfl, Nat.le_zero.mp hk9⟩) dX0_worstBits_21 (Nat.le_of_ble_eq_true rfl) (Nat.le_of_ble_eq_true rfl)
  · replace c_1 := bId_1 c_1
    refine g_iload_n hC dX0_worstBits_12 1 rfl 13 rfl ?_
    refine g_calliP (g_S (As := [.int x]) (rest := []) hC msX0_worst q2620 (met_X_worst l G M x) ⟨rfl, rfl⟩ ⟨(Nat.le_of_ble_eq_true rfl), (Nat.le_of_ble_eq_true rfl)⟩ rfl (Nat.le_of_ble_eq_true rfl) dX0_worstBits_13 rfl ⟨(Nat.le_of_ble_eq_true rfl), (Nat.le_of_ble_eq_true rfl)⟩) 16 rfl 0 (Nat.le_of_ble_eq_true rfl) ?_
    refine g_goto hC dX0_worstBits_16 21 rfl ?_
    exact g_iret (v := worstF x) hC (fun k9 hk9 => ⟨(by first | rfl | (simp only [eq_true c_1, if_true, if_false, true_and, and_true, false_and, and_false, true_or, or_true, false_or, or_false, not_true_eq_false, not_false_eq_true, reduceIte, decide_true, decide_false, Bool.false_eq_true]; done) | (simp only [eq_true c_1, if_true, if_false, true_and, and_true, false_and, and_false, true_or, or_true, false_or, or_false, not_true_eq_false, not_false_eq_true, reduceIte, decide_true, decide_false, Bool.false_eq_true]; rfl) | (simp only [c_1, if_true, if_false, true_and, and_true, false_and, and_false, true_or, or_true, false_or, or_false, not_true_eq_false, not_false_eq_true, reduceIte, decide_true, decide_false, Bool.false_eq_true]; done) | (simp only []; simp only [if_true, if_false, true_and, and_true, false_and, and_false, true_or, or_true, false_or, or_false, not_true_eq_false, not_false_eq_true, reduceIte, decide_true, decide_false, Bool.false_eq_true, eq_true c_1]; done) | (simp only []; simp only [if_true, if_false, true_and, and_true, false_and, and_false, true_or, or_true, false_or, or_false, not_true_eq_false, not_false_eq_true, reduceIte, decide_true, decide_false, Bool.false_eq_true, c_1]; done) | (simp only []; simp only [if_true, if_false, true_and, and_true, false_and, and_false, true_or, or_true, false_or, or_false, not_true_eq_false, not_false_eq_true, reduceIte, decide_true, decide_false, Bool.false_eq_true, c_1]; simp only []; done) | (simp only [c_1, if_true, if_false, true_and, and_true, false_and, and_false, true_or, or_true, false_or, or_false, not_true_eq_false, not_false_eq_true, reduceIte, decide_true, decide_false, Bool.false_eq_true]; rfl) | (simp only []; simp only [if_true, if_false, true_and, and_true, false_and, and_false, true_or, or_true, false_or, or_false, not_true_eq_false, not_false_eq_true, reduceIte, decide_true, decide_false, Bool.false_eq_true, c_1]; rfl) | (simp only []; rfl) | (simp only [c_1, if_true, if_false, true_and, and_true, false_and, and_false, true_or, or_true, false_or, or_false, not_true_eq_false, not_false_eq_true, reduceIte, decide_true, decide_false, Bool.false_eq_true]; rfl) | (simp_all []; done)), rfl, Nat.le_zero.mp hk9⟩) dX0_worstBits_21 (Nat.le_of_ble_eq_true rfl) (Nat.le_of_ble_eq_true rfl)
theorem nar127 {x : Int32} (h : 0 ≤ x ∧ x ≤ 127) : vp_nar .byte (Int32.toInt8 x).toInt32 = x := by
  obtain ⟨m, m1, m2⟩ := nI_i32 (n := 127) h.1 h.2 (by decide)
  subst m2
  have key : ∀ n, n < 128 → vp_nar .byte (Int32.toInt8 (nI n)).toInt32 = nI n := by decide
  exact key m (by omega)
set_option maxHeartbeats 4000000 in
theorem met_X_append_n (l : Launch) (G : gG) (M : gM) (xa : Nat) (of : Nat) (sv : Nat) (ms : Nat) (tx : Nat) (lc : Nat) (txf : Nat → Int32) (x : Int32) (hx : ¬ (0 ≤ x ∧ x ≤ 127)) (hM_0 : M xa = some ((8, 0), .inr (0, [.ref of, .ref sv, .ref ms, .ref tx, .int (nI lc)]))) (hM_1 : M tx = some ((8, 5), .inl (gcs G 1, 120, .inl txf))) : Met l yX0_append (ws_ yX0_append cX0_append 2 (some .int)) ({ frames := 1, cells := 0, slots := 0, locals := 25 }) (gPc G [.ref xa, .int x] M) (gQi G (fun r9 M9 k9 => r9 = (-2) ∧ M9 = M ∧ k9 = 0)) 0 0 (gA G) := by
  refine gMet [(0, .ref xa), (1, .int x)] (by decide) (Nat.le_of_ble_eq_true rfl) rfl ?_
  intro p e s m below meth c hC
  refine g_iload_n hC dX0_append_0 1 rfl 1 rfl ?_
  refine g_i2l hC dX0_append_1 2 rfl ?_
  refine g_lconst (v := 0) hC dX0_append_2 (by decide) 3 rfl ?_
  refine g_ldc2 hC q2717 dX0_append_3 6 rfl ?_
  refine g_calliP (g_S (As := [.long (Int32.toInt64 x), .long 0, .long 127]) (rest := []) hC msX0_isIn q541 (met_isIn l G M (Int32.toInt64 x) 0 127) ⟨rfl, rfl⟩ ⟨(Nat.le_of_ble_eq_true rfl), (Nat.le_of_ble_eq_true rfl)⟩ rfl (Nat.le_of_ble_eq_true rfl) dX0_append_6 rfl ⟨(Nat.le_of_ble_eq_true rfl), (Nat.le_of_ble_eq_true rfl)⟩) 9 rfl 0 (Nat.le_of_ble_eq_true rfl) ?_
  refine g_topi (y := bI (decide (0 ≤ x ∧ x ≤ 127))) (isIn_c 0 127 (by decide) (by decide)) ?_
  refine g_if_ne hC dX0_append_9 15 rfl 12 rfl (fun c_1 => ?_) (fun c_1 => ?_)
  · replace c_1 := bId_1 c_1
    exact absurd c_1 hx
  · replace c_1 := bId_0 c_1
    refine g_bipush hC dX0_append_12 kb_m2 14 rfl ?_
    exact g_iret (v := -2) hC (fun k9 hk9 => ⟨rfl, rfl, Nat.le_zero.mp hk9⟩) dX0_append_14 (Nat.le_of_ble_eq_true rfl) (Nat.le_of_ble_eq_true rfl)
set_option maxHeartbeats 4000000 in
theorem met_X_append_f (l : Launch) (G : gG) (M : gM) (xa : Nat) (of : Nat) (sv : Nat) (ms : Nat) (tx : Nat) (lc : Nat) (txf : Nat → Int32) (x : Int32) (hx : 0 ≤ x ∧ x ≤ 127) (hf : lc = 120) (hM_0 : M xa = some ((8, 0), .inr (0, [.ref of, .ref sv, .ref ms, .ref tx, .int (nI lc)]))) (hM_1 : M tx = some ((8, 5), .inl (gcs G 1, 120, .inl txf))) : Met l yX0_append (ws_ yX0_append cX0_append 2 (some .int)) ({ frames := 1, cells := 0, slots := 0, locals := 25 }) (gPc G [.ref xa, .int x] M) (gQi G (fun r9 M9 k9 => r9 = (-3) ∧ M9 = M ∧ k9 = 0)) 0 0 (gA G) := by
  refine gMet [(0, .ref xa), (1, .int x)] (by decide) (Nat.le_of_ble_eq_true rfl) rfl ?_
  intro p e s m below meth c hC
  refine g_iload_n hC dX0_append_0 1 rfl 1 rfl ?_
  refine g_i2l hC dX0_append_1 2 rfl ?_
  refine g_lconst (v := 0) hC dX0_append_2 (by decide) 3 rfl ?_
  refine g_ldc2 hC q2717 dX0_append_3 6 rfl ?_
  refine g_calliP (g_S (As := [.long (Int32.toInt64 x), .long 0, .long 127]) (rest := []) hC msX0_isIn q541 (met_isIn l G M (Int32.toInt64 x) 0 127) ⟨rfl, rfl⟩ ⟨(Nat.le_of_ble_eq_true rfl), (Nat.le_of_ble_eq_true rfl)⟩ rfl (Nat.le_of_ble_eq_true rfl) dX0_append_6 rfl ⟨(Nat.le_of_ble_eq_true rfl), (Nat.le_of_ble_eq_true rfl)⟩) 9 rfl 0 (Nat.le_of_ble_eq_true rfl) ?_
  refine g_topi (y := bI (decide (0 ≤ x ∧ x ≤ 127))) (isIn_c 0 127 (by decide) (by decide)) ?_
  refine g_if_ne hC dX0_append_9 15 rfl 12 rfl (fun c_1 => ?_) (fun c_1 => ?_)
  · replace c_1 := bId_1 c_1
    refine g_aload_n hC dX0_append_15 0 rfl gRef_r 16 rfl ?_
    refine g_get (v := .int (nI lc)) hC cI0 hM_0 4 (Nat.le_of_ble_eq_true rfl) q523 rfl dX0_append_16 19 rfl ?_
    refine g_bipush hC dX0_append_19 kb_120 21 rfl ?_
    refine g_icmp_ne hC dX0_append_21 27 rfl 24 rfl (fun c_2 => ?_) (fun c_2 => ?_)
    · replace c_2 : ¬ lc = 120 := nn_neq (by omega) (by omega) c_2
      exact absurd hf c_2
    · replace c_2 : lc = 120 := nn_eq (by omega) (by omega) c_2
      refine g_bipush hC dX0_append_24 kb_m3 26 rfl ?_
      exact g_iret (v := -3) hC (fun k9 hk9 => ⟨rfl, rfl, Nat.le_zero.mp hk9⟩) dX0_append_26 (Nat.le_of_ble_eq_true rfl) (Nat.le_of_ble_eq_true rfl)
  · replace c_1 := bId_0 c_1
    exact absurd hx c_1
set_option maxHeartbeats 4000000 in
theorem met_X_append (l : Launch) (G : gG) (M : gM) (xa : Nat) (of : Nat) (sv : Nat) (ms : Nat) (tx : Nat) (lc : Nat) (txf : Nat → Int32) (x : Int32) (hx : 0 ≤ x ∧ x ≤ 127) (hf : lc < 120) (hM_0 : M xa = some ((8, 0), .inr (0, [.ref of, .ref sv, .ref ms, .ref tx, .int (nI lc)]))) (hM_1 : M tx = some ((8, 5), .inl (gcs G 1, 120, .inl txf))) : Met l yX0_append (ws_ yX0_append cX0_append 2 (some .int)) ({ frames := 1, cells := 0, slots := 0, locals := 25 }) (gPc G [.ref xa, .int x] M) (gQi G (fun r9 M9 k9 => r9 = (nI (lc + 1)) ∧ M9 xa = some ((8, 0), .inr (0, [.ref of, .ref sv, .ref ms, .ref tx, .int (nI (lc + 1))])) ∧ M9 tx = some ((8, 5), .inl (gcs G 1, 120, .inl (upd txf lc x))) ∧ gFr (gL [xa, tx]) M M9 ∧ k9 = 0)) 0 0 (gA G) := by
  refine gMet [(0, .ref xa), (1, .int x)] (by decide) (Nat.le_of_ble_eq_true rfl) rfl ?_
  intro p e s m below meth c hC
  refine g_iload_n hC dX0_append_0 1 rfl 1 rfl ?_
  refine g_i2l hC dX0_append_1 2 rfl ?_
  refine g_lconst (v := 0) hC dX0_append_2 (by decide) 3 rfl ?_
  refine g_ldc2 hC q2717 dX0_append_3 6 rfl ?_
  refine g_calliP (g_S (As := [.long (Int32.toInt64 x), .long 0, .long 127]) (rest := []) hC msX0_isIn q541 (met_isIn l G M (Int32.toInt64 x) 0 127) ⟨rfl, rfl⟩ ⟨(Nat.le_of_ble_eq_true rfl), (Nat.le_of_ble_eq_true rfl)⟩ rfl (Nat.le_of_ble_eq_true rfl) dX0_append_6 rfl ⟨(Nat.le_of_ble_eq_true rfl), (Nat.le_of_ble_eq_true rfl)⟩) 9 rfl 0 (Nat.le_of_ble_eq_true rfl) ?_
  refine g_topi (y := bI (decide (0 ≤ x ∧ x ≤ 127))) (isIn_c 0 127 (by decide) (by decide)) ?_
  refine g_if_ne hC dX0_append_9 15 rfl 12 rfl (fun c_1 => ?_) (fun c_1 => ?_)
  · replace c_1 := bId_1 c_1
    refine g_aload_n hC dX0_append_15 0 rfl gRef_r 16 rfl ?_
    refine g_get (v := .int (nI lc)) hC cI0 hM_0 4 (Nat.le_of_ble_eq_true rfl) q523 rfl dX0_append_16 19 rfl ?_
    refine g_bipush hC dX0_append_19 kb_120 21 rfl ?_
    refine g_icmp_ne hC dX0_append_21 27 rfl 24 rfl (fun c_2 => ?_) (fun c_2 => ?_)
    · replace c_2 : ¬ lc = 120 := nn_neq (by omega) (by omega) c_2
      refine g_aload_n hC dX0_append_27 0 rfl gRef_r 28 rfl ?_
      refine g_get (v := .ref tx) hC cI0 hM_0 3 (Nat.le_of_ble_eq_true rfl) q521 rfl dX0_append_28 31 rfl ?_
      refine g_aload_n hC dX0_append_31 0 rfl gRef_r 32 rfl ?_
      refine g_get (v := .int (nI lc)) hC cI0 hM_0 4 (Nat.le_of_ble_eq_true rfl) q523 rfl dX0_append_32 35 rfl ?_
      refine g_iload_n hC dX0_append_35 1 rfl 36 rfl ?_
      refine g_i2b hC dX0_append_36 37 rfl ?_
      refine g_bast hC hM_1 1 rfl (vp_in_nI (by omega) (by omega)) lc (nI_clamp (by omega)) dX0_append_37 38 rfl (fun M3 hU4 => ?_)
      obtain ⟨F5, eF6⟩ : ∃ z9, z9 = upd txf lc (vp_nar .byte ((Int32.toInt8 x).toInt32)) := ⟨_, rfl⟩
      rw [← eF6] at hU4
      refine g_aload_n hC dX0_append_38 0 rfl gRef_r 39 rfl ?_
      refine g_dup hC dX0_append_39 rfl 40 rfl ?_
      refine g_get (v := .int (nI lc)) hC cI0 (hU4.n (gne_oa hM_0 hM_1) hM_0) 4 (Nat.le_of_ble_eq_true rfl) q523 rfl dX0_append_40 43 rfl ?_
      refine g_iconst hC dX0_append_43 ki_1 44 rfl ?_
      refine g_iadd hC dX0_append_44 45 rfl ?_
      refine g_topi (y := nI (lc + 1)) (nI_a (a := lc) (b := 1) (c := (lc + 1)) (by omega)) ?_
      refine g_put hC cI0 (hU4.n (gne_oa hM_0 hM_1) hM_0) 4 (Nat.le_of_ble_eq_true rfl) q523 rfl rfl rfl (Nat.le_of_ble_eq_true rfl) dX0_append_45 (fs' := [.ref of, .ref sv, .ref ms, .ref tx, .int (nI (lc + 1))]) rfl 48 rfl (fun M7 hU8 => ?_)
      refine g_aload_n hC dX0_append_48 0 rfl gRef_r 49 rfl ?_
      refine g_get (v := .int (nI (lc + 1))) hC cI0 hU8.1 4 (Nat.le_of_ble_eq_true rfl) q523 rfl dX0_append_49 52 rfl ?_
      exact g_iret (v := nI (lc + 1)) hC (fun k9 hk9 => ⟨rfl, hU8.1, (by rw [(hU8.n (gne_ao hU4.1 (hU4.n (gne_oa hM_0 hM_1) hM_0)) hU4.1), eF6, nar127 hx]), ((gFr.refl.up hU4 hM_1 (by simp)).up hU8 (hU4.n (gne_oa hM_0 hM_1) hM_0) (by simp)), (by first | exact Nat.le_zero.mp hk9 | omega)⟩) dX0_append_52 (Nat.le_of_ble_eq_true rfl) (Nat.le_of_ble_eq_true rfl)
    · replace c_2 : lc = 120 := nn_eq (by omega) (by omega) c_2
      exact absurd c_2 (by omega)
  · replace c_1 := bId_0 c_1
    exact absurd hx c_1
set_option maxHeartbeats 4000000 in
theorem met_X_clearText (l : Launch) (G : gG) (M : gM) (xa : Nat) (of : Nat) (sv : Nat) (ms : Nat) (tx : Nat) (lc : Nat) (txf : Nat → Int32)  (hM_0 : M xa = some ((8, 0), .inr (0, [.ref of, .ref sv, .ref ms, .ref tx, .int (nI lc)]))) : Met l yX0_clearText (ws_ yX0_clearText cX0_clearText 2 (some .int)) ({ frames := 0, cells := 0, slots := 0, locals := 0 }) (gPc G [.ref xa] M) (gQi G (fun r9 M9 k9 => r9 = (nI lc) ∧ M9 xa = some ((8, 0), .inr (0, [.ref of, .ref sv, .ref ms, .ref tx, .int 0])) ∧ gFr (gL [xa]) M M9 ∧ k9 = 0)) 0 0 (gA G) := by
  refine gMet [(0, .ref xa)] (by decide) (Nat.le_of_ble_eq_true rfl) rfl ?_
  intro p e s m below meth c hC
  refine g_aload_n hC dX0_clearText_0 0 rfl gRef_r 1 rfl ?_
  refine g_get (v := .int (nI lc)) hC cI0 hM_0 4 (Nat.le_of_ble_eq_true rfl) q523 rfl dX0_clearText_1 4 rfl ?_
  refine g_istore_n hC dX0_clearText_4 rfl (Nat.le_of_ble_eq_true rfl) [(1, .int (nI lc)), (0, .ref xa)] rfl 5 rfl ?_
  refine g_aload_n hC dX0_clearText_5 1 rfl gRef_r 6 rfl ?_
  refine g_iconst hC dX0_clearText_6 ki_0 7 rfl ?_
  refine g_put hC cI0 hM_0 4 (Nat.le_of_ble_eq_true rfl) q523 rfl rfl rfl (Nat.le_of_ble_eq_true rfl) dX0_clearText_7 (fs' := [.ref of, .ref sv, .ref ms, .ref tx, .int 0]) rfl 10 rfl (fun M1 hU2 => ?_)
  refine g_iload_n hC dX0_clearText_10 0 rfl 11 rfl ?_
  exact g_iret (v := nI lc) hC (fun k9 hk9 => ⟨rfl, hU2.1, (gFr.refl.up hU2 hM_0 (by simp)), (by first | exact Nat.le_zero.mp hk9 | omega)⟩) dX0_clearText_11 (Nat.le_of_ble_eq_true rfl) (Nat.le_of_ble_eq_true rfl)
