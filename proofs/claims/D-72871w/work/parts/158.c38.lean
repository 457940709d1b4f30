/-! the public methods over the packed bus: what only reads -/
set_option maxRecDepth 100000
theorem relN.g3 {f : Nat → Int32} {k q : Nat} {x : NS} (h : relN f k q x) : x.g 3 = f (256 * k + 4) := by
  obtain ⟨V, h⟩ := h; exact h.1.1.1.2.symm
theorem relN.g4 {f : Nat → Int32} {k q : Nat} {x : NS} (h : relN f k q x) : x.g 4 = f (256 * k + 5) := by
  obtain ⟨V, h⟩ := h; exact h.1.1.2.1.2.symm
theorem relN.g19 {f : Nat → Int32} {k q : Nat} {x : NS} (h : relN f k q x) : x.g 19 = T_last f k := by
  obtain ⟨V, h⟩ := h; exact h.1.1.2.2.2.1.symm
theorem relN.g20 {f : Nat → Int32} {k q : Nat} {x : NS} (h : relN f k q x) : x.g 20 = f (256 * k + 12) := by
  obtain ⟨V, h⟩ := h; exact h.1.1.2.2.2.2.1.symm
theorem relN.g21 {f : Nat → Int32} {k q : Nat} {x : NS} (h : relN f k q x) : x.g 21 = f (256 * k + 13) := by
  obtain ⟨V, h⟩ := h; exact h.1.2.1.symm
theorem relN.g23 {f : Nat → Int32} {k q : Nat} {x : NS} (h : relN f k q x) : x.g 23 = f (256 * k + 15) := by
  obtain ⟨V, h⟩ := h; exact h.1.1.2.2.2.2.2.2.1.symm
theorem relN.er {f : Nat → Int32} {k q j : Nat} {x : NS} (h : relN f k q x) (h1 : 1 ≤ j) (h5 : j ≤ 5) : x.e j = f (256 * k + j + 5) := by
  obtain ⟨V, h⟩ := h; exact (h.1.1.2.2.1 j h1 h5).symm
theorem relN.fp {f : Nat → Int32} {k q : Nat} {x : NS} (h : relN f k q x) : nI x.ph = f (256 * k + 0) := by
  obtain ⟨V, h⟩ := h; exact h.2.2.1.1.1.symm
theorem relN.wl {f : Nat → Int32} {k q : Nat} {x : NS} (h : relN f k q x) : nI x.W.length = f (256 * k + 23) := h.n23.1.symm
theorem relN.rl {f : Nat → Int32} {k q : Nat} {x : NS} (h : relN f k q x) : nI x.R.length = f (256 * k + 24) := by
  obtain ⟨V, h⟩ := h; exact h.1.2.2.2.1.2.1.symm
theorem relN.tr {f : Nat → Int32} {k q : Nat} {x : NS} (h : relN f k q x) : bI (decide (¬ x.g 2 = 0 ∧ 4 ≤ x.ph ∧ x.ph ≤ 8)) = f (256 * k + 1) := by
  obtain ⟨V, h⟩ := h
  have hP := h.2.2.1
  rw [hP.2.2.1]
  by_cases z : 4 ≤ x.ph ∧ x.ph ≤ 8
  · rw [if_pos z]
    rcases hP.2.1 with g | g <;> rw [g] <;> simp [z] <;> decide
  · rw [if_neg z]
    have : ¬ (¬ x.g 2 = 0 ∧ 4 ≤ x.ph ∧ x.ph ≤ 8) := fun w => z w.2
    rw [decide_eq_false this]
    rfl
theorem bI_bit (b : Bool) : (if b = true then (1 : Int32) else 0) = bI b := by cases b <;> rfl
set_option maxHeartbeats 4000000 in
theorem met_X_isNode (l : Launch) (G : gG) (M : gM) (x : Int32)   : Met l yX0_isNode (ws_ yX0_isNode cX0_isNode 1 (some .boolean)) ({ frames := 1, cells := 0, slots := 0, locals := 25 }) (gPc G [.int x] M) (gQi G (fun r9 M9 k9 => r9 = (bI (decide (0 ≤ x ∧ x ≤ 3))) ∧ M9 = M ∧ k9 = 0)) 0 0 (gA G) := by
  refine gMet [(0, .int x)] (by decide) (Nat.le_of_ble_eq_true rfl) rfl ?_
  intro p e s m below meth c hC
  refine g_iload_n hC dX0_isNode_0 0 rfl 1 rfl ?_
  refine g_i2l hC dX0_isNode_1 2 rfl ?_
  refine g_lconst (v := 0) hC dX0_isNode_2 (by decide) 3 rfl ?_
  refine g_ldc2 hC q553 dX0_isNode_3 6 rfl ?_
  refine g_calliP (g_S (As := [.long (Int32.toInt64 x), .long 0, .long 3]) (rest := []) hC msX0_isIn q541 (met_isIn l G M (Int32.toInt64 x) 0 3) ⟨rfl, rfl⟩ ⟨(Nat.le_of_ble_eq_true rfl), (Nat.le_of_ble_eq_true rfl)⟩ rfl (Nat.le_of_ble_eq_true rfl) dX0_isNode_6 rfl ⟨(Nat.le_of_ble_eq_true rfl), (Nat.le_of_ble_eq_true rfl)⟩) 9 rfl 0 (Nat.le_of_ble_eq_true rfl) ?_
  refine g_topi (y := bI (decide (0 ≤ x ∧ x ≤ 3))) (isIn_c 0 3 (by decide) (by decide)) ?_
  exact g_zret (v := bI (decide (0 ≤ x ∧ x ≤ 3))) hC (bI_n (decide (0 ≤ x ∧ x ≤ 3))) (fun k9 hk9 => ⟨rfl, rfl, Nat.le_zero.mp hk9⟩) dX0_isNode_9 (Nat.le_of_ble_eq_true rfl) (Nat.le_of_ble_eq_true rfl)
set_option maxHeartbeats 4000000 in
theorem met_X_bit (l : Launch) (G : gG) (M : gM) (b : Bool)   : Met l yX0_bit (ws_ yX0_bit cX0_bit 1 (some .int)) ({ frames := 0, cells := 0, slots := 0, locals := 0 }) (gPc G [.int (bI b)] M) (gQi G (fun r9 M9 k9 => r9 = (bI b) ∧ M9 = M ∧ k9 = 0)) 0 0 (gA G) := by
  refine gMet [(0, .int (bI b))] (by decide) (Nat.le_of_ble_eq_true rfl) rfl ?_
  intro p e s m below meth c hC
  refine g_iload_n hC dX0_bit_0 0 rfl 1 rfl ?_
  refine g_if_eq hC dX0_bit_1 8 rfl 4 rfl (fun c_1 => ?_) (fun c_1 => ?_)
  · replace c_1 : b = false := bB_e0 c_1
    refine g_iconst hC dX0_bit_8 ki_0 9 rfl ?_
    exact g_iret (v := 0) hC (fun k9 hk9 => ⟨(by first | rfl | (simp only [eq_false (bF_nt c_1), eq_true c_1, if_true, if_false, true_and, and_true, false_and, and_false, true_or, or_true, false_or, or_false, not_true_eq_false, not_false_eq_true, reduceIte, decide_true, decide_false, Bool.false_eq_true]; done) | (simp only [eq_false (bF_nt c_1), eq_true c_1, if_true, if_false, true_and, and_true, false_and, and_false, true_or, or_true, false_or, or_false, not_true_eq_false, not_false_eq_true, reduceIte, decide_true, decide_false, Bool.false_eq_true]; rfl) | (simp only [c_1, if_true, if_false, true_and, and_true, false_and, and_false, true_or, or_true, false_or, or_false, not_true_eq_false, not_false_eq_true, reduceIte, decide_true, decide_false, Bool.false_eq_true]; done) | (simp only []; simp only [if_true, if_false, true_and, and_true, false_and, and_false, true_or, or_true, false_or, or_false, not_true_eq_false, not_false_eq_true, reduceIte, decide_true, decide_false, Bool.false_eq_true, eq_false (bF_nt c_1), eq_true c_1]; done) | (simp only []; simp only [if_true, if_false, true_and, and_true, false_and, and_false, true_or, or_true, false_or, or_false, not_true_eq_false, not_false_eq_true, reduceIte, decide_true, decide_false, Bool.false_eq_true, c_1]; done) | (simp only []; simp only [if_true, if_false, true_and, and_true, false_and, and_false, true_or, or_true, false_or, or_false, not_true_eq_false, not_false_eq_true, reduceIte, decide_true, decide_false, Bool.false_eq_true, c_1]; simp only []; done) | (simp only [c_1, if_true, if_false, true_and, and_true, false_and, and_false, true_or, or_true, false_or, or_false, not_true_eq_false, not_false_eq_true, reduceIte, decide_true, decide_false, Bool.false_eq_true]; rfl) | (simp only []; simp only [if_true, if_false, true_and, and_true, false_and, and_false, true_or, or_true, false_or, or_false, not_true_eq_false, not_false_eq_true, reduceIte, decide_true, decide_false, Bool.false_eq_true, c_1]; rfl) | (simp only []; rfl) | (simp only [c_1, if_true, if_false, true_and, and_true, false_and, and_false, true_or, or_true, false_or, or_false, not_true_eq_false, not_false_eq_true, reduceIte, decide_true, decide_false, Bool.false_eq_true]; rfl) | (simp_all []; done)), rfl, Nat.le_zero.mp hk9⟩) dX0_bit_9 (Nat.le_of_ble_eq_true rfl) (Nat.le_of_ble_eq_true rfl)
  · replace c_1 : b = true := bB_n0 c_1
    refine g_iconst hC dX0_bit_4 ki_1 5 rfl ?_
    refine g_goto hC dX0_bit_5 9 rfl ?_
    exact g_iret (v := 1) hC (fun k9 hk9 => ⟨(by first | rfl | (simp only [eq_true c_1, if_true, if_false, true_and, and_true, false_and, and_false, true_or, or_true, false_or, or_false, not_true_eq_false, not_false_eq_true, reduceIte, decide_true, decide_false, Bool.false_eq_true]; done) | (simp only [eq_true c_1, if_true, if_false, true_and, and_true, false_and, and_false, true_or, or_true, false_or, or_false, not_true_eq_false, not_false_eq_true, reduceIte, decide_true, decide_false, Bool.false_eq_true]; rfl) | (simp only [c_1, if_true, if_false, true_and, and_true, false_and, and_false, true_or, or_true, false_or, or_false, not_true_eq_false, not_false_eq_true, reduceIte, decide_true, decide_false, Bool.false_eq_true]; done) | (simp only []; simp only [if_true, if_false, true_and, and_true, false_and, and_false, true_or, or_true, false_or, or_false, not_true_eq_false, not_false_eq_true, reduceIte, decide_true, decide_false, Bool.false_eq_true, eq_true c_1]; done) | (simp only []; simp only [if_true, if_false, true_and, and_true, false_and, and_false, true_or, or_true, false_or, or_false, not_true_eq_false, not_false_eq_true, reduceIte, decide_true, decide_false, Bool.false_eq_true, c_1]; done) | (simp only []; simp only [if_true, if_false, true_and, and_true, false_and, and_false, true_or, or_true, false_or, or_false, not_true_eq_false, not_false_eq_true, reduceIte, decide_true, decide_false, Bool.false_eq_true, c_1]; simp only []; done) | (simp only [c_1, if_true, if_false, true_and, and_true, false_and, and_false, true_or, or_true, false_or, or_false, not_true_eq_false, not_false_eq_true, reduceIte, decide_true, decide_false, Bool.false_eq_true]; rfl) | (simp only []; simp only [if_true, if_false, true_and, and_true, false_and, and_false, true_or, or_true, false_or, or_false, not_true_eq_false, not_false_eq_true, reduceIte, decide_true, decide_false, Bool.false_eq_true, c_1]; rfl) | (simp only []; rfl) | (simp only [c_1, if_true, if_false, true_and, and_true, false_and, and_false, true_or, or_true, false_or, or_false, not_true_eq_false, not_false_eq_true, reduceIte, decide_true, decide_false, Bool.false_eq_true]; rfl) | (simp_all []; done)), rfl, Nat.le_zero.mp hk9⟩) dX0_bit_9 (Nat.le_of_ble_eq_true rfl) (Nat.le_of_ble_eq_true rfl)
set_option maxHeartbeats 4000000 in
theorem met_X_transmitErrors_n (l : Launch) (G : gG) (M : gM) (xa : Nat) (sv : Nat) (ms : Nat) (tx : Nat) (le : Int32) (ta : Nat) (of : Nat) (f : Nat → Int32) (q : Nat) (x : Int32) (hx : ¬ (0 ≤ x ∧ x ≤ 3)) (hM_0 : M xa = some ((8, 0), .inr (0, [.ref of, .ref sv, .ref ms, .ref tx, .int le]))) : Met l yX0_transmitErrors (ws_ yX0_transmitErrors cX0_transmitErrors 2 (some .int)) ({ frames := 2, cells := 0, slots := 0, locals := 45 }) (gPc G [.ref xa, .int x] M) (gQi G (fun r9 M9 k9 => r9 = (-1) ∧ M9 = M ∧ k9 = 0)) 0 0 (gA G) := by
  refine gMet [(0, .ref xa), (1, .int x)] (by decide) (Nat.le_of_ble_eq_true rfl) rfl ?_
  intro p e s m below meth c hC
  refine g_iload_n hC dX0_transmitErrors_0 1 rfl 1 rfl ?_
  refine g_calliP (g_S (As := [.int x]) (rest := []) hC msX0_isNode q550 (met_X_isNode l G M x) ⟨rfl, rfl⟩ ⟨(Nat.le_of_ble_eq_true rfl), (Nat.le_of_ble_eq_true rfl)⟩ rfl (Nat.le_of_ble_eq_true rfl) dX0_transmitErrors_1 rfl ⟨(Nat.le_of_ble_eq_true rfl), (Nat.le_of_ble_eq_true rfl)⟩) 4 rfl 0 (Nat.le_of_ble_eq_true rfl) ?_
  refine g_if_eq hC dX0_transmitErrors_4 22 rfl 7 rfl (fun c_1 => ?_) (fun c_1 => ?_)
  · replace c_1 := bId_0 c_1
    refine g_iconst hC dX0_transmitErrors_22 ki_m1 23 rfl ?_
    exact g_iret (v := -1) hC (fun k9 hk9 => ⟨rfl, rfl, Nat.le_zero.mp hk9⟩) dX0_transmitErrors_23 (Nat.le_of_ble_eq_true rfl) (Nat.le_of_ble_eq_true rfl)
  · replace c_1 := bId_1 c_1
    exact absurd c_1 hx
set_option maxHeartbeats 4000000 in
theorem met_X_transmitErrors (l : Launch) (G : gG) (M : gM) (xa : Nat) (sv : Nat) (ms : Nat) (tx : Nat) (le : Int32) (ta : Nat) (of : Nat) (f : Nat → Int32) (q : Nat) (k : Nat) (hta : 2 ≤ ta ∧ ta < 9) (hk : k < 4) (hM_0 : M xa = some ((8, 0), .inr (0, [.ref of, .ref sv, .ref ms, .ref tx, .int le]))) (hP_0 : busR M G ta of f q) : Met l yX0_transmitErrors (ws_ yX0_transmitErrors cX0_transmitErrors 2 (some .int)) ({ frames := 2, cells := 0, slots := 0, locals := 45 }) (gPc G [.ref xa, .int (nI k)] M) (gQi G (fun r9 M9 k9 => r9 = (f (256 * k + 4)) ∧ M9 = M ∧ k9 = 0)) 0 0 (gA G) := by
  refine gMet [(0, .ref xa), (1, .int (nI k))] (by decide) (Nat.le_of_ble_eq_true rfl) rfl ?_
  intro p e s m below meth c hC
  refine g_iload_n hC dX0_transmitErrors_0 1 rfl 1 rfl ?_
  refine g_calliP (g_S (As := [.int (nI k)]) (rest := []) hC msX0_isNode q550 (met_X_isNode l G M (nI k)) ⟨rfl, rfl⟩ ⟨(Nat.le_of_ble_eq_true rfl), (Nat.le_of_ble_eq_true rfl)⟩ rfl (Nat.le_of_ble_eq_true rfl) dX0_transmitErrors_1 rfl ⟨(Nat.le_of_ble_eq_true rfl), (Nat.le_of_ble_eq_true rfl)⟩) 4 rfl 0 (Nat.le_of_ble_eq_true rfl) ?_
  refine g_if_eq hC dX0_transmitErrors_4 22 rfl 7 rfl (fun c_1 => ?_) (fun c_1 => ?_)
  · replace c_1 := bId_0 c_1
    exact absurd (nk_in hk) c_1
  · replace c_1 := bId_1 c_1
    obtain ⟨bn_z2, bd_z2, bh_z2, nd_z2, tn_z2, pl_z2, ol_z2, rv_z2, A_z2, x_z2, b0_z2, b1_z2, hA_z2, hN_z2, hR_z2, ht_z2, hl_z2, hp_z2, hW_z2⟩ := busR.nd hP_0 hta (show k < 4 by omega)
    obtain ⟨sa_z3, wa_z3, rc_z3, an_z3, er_z3, hO_z3⟩ := isNd.cell hN_z2
    have hph9 := (relN.ph hR_z2).2
    refine g_aload_n hC dX0_transmitErrors_7 0 rfl gRef_r 8 rfl ?_
    refine g_get (v := .ref of) hC cI0 hM_0 0 (Nat.le_of_ble_eq_true rfl) q517 rfl dX0_transmitErrors_8 11 rfl ?_
    refine g_getN (v := .ref bn_z2) hC cI1 b0_z2 0 (Nat.le_of_ble_eq_true rfl) q470 rfl dX0_transmitErrors_11 14 rfl ?_
    refine g_iload_n hC dX0_transmitErrors_14 1 rfl 15 rfl ?_
    refine g_aldq (r := some nd_z2) hC b1_z2 4 rfl (vp_in_nI (by omega) (by omega)) ((congrArg A_z2 (nI_clamp (by omega))).trans hA_z2) dX0_transmitErrors_15 16 rfl ?_
    refine g_getN (v := .int (x_z2.g 3)) hC cI2 hO_z3 3 (Nat.le_of_ble_eq_true rfl) q376 rfl dX0_transmitErrors_16 19 rfl ?_
    refine g_goto hC dX0_transmitErrors_19 23 rfl ?_
    exact g_iret (v := x_z2.g 3) hC (fun k9 hk9 => ⟨(relN.g3 hR_z2), rfl, Nat.le_zero.mp hk9⟩) dX0_transmitErrors_23 (Nat.le_of_ble_eq_true rfl) (Nat.le_of_ble_eq_true rfl)
set_option maxHeartbeats 4000000 in
theorem met_X_receiveErrors_n (l : Launch) (G : gG) (M : gM) (xa : Nat) (sv : Nat) (ms : Nat) (tx : Nat) (le : Int32) (ta : Nat) (of : Nat) (f : Nat → Int32) (q : Nat) (x : Int32) (hx : ¬ (0 ≤ x ∧ x ≤ 3)) (hM_0 : M xa = some ((8, 0), .inr (0, [.ref of, .ref sv, .ref ms, .ref tx, .int le]))) : Met l yX0_receiveErrors (ws_ yX0_receiveErrors cX0_receiveErrors 2 (some .int)) ({ frames := 2, cells := 0, slots := 0, locals := 45 }) (gPc G [.ref xa, .int x] M) (gQi G (fun r9 M9 k9 => r9 = (-1) ∧ M9 = M ∧ k9 = 0)) 0 0 (gA G) := by
  refine gMet [(0, .ref xa), (1, .int x)] (by decide) (Nat.le_of_ble_eq_true rfl) rfl ?_
  intro p e s m below meth c hC
  refine g_iload_n hC dX0_receiveErrors_0 1 rfl 1 rfl ?_
  refine g_calliP (g_S (As := [.int x]) (rest := []) hC msX0_isNode q550 (met_X_isNode l G M x) ⟨rfl, rfl⟩ ⟨(Nat.le_of_ble_eq_true rfl), (Nat.le_of_ble_eq_true rfl)⟩ rfl (Nat.le_of_ble_eq_true rfl) dX0_receiveErrors_1 rfl ⟨(Nat.le_of_ble_eq_true rfl), (Nat.le_of_ble_eq_true rfl)⟩) 4 rfl 0 (Nat.le_of_ble_eq_true rfl) ?_
  refine g_if_eq hC dX0_receiveErrors_4 22 rfl 7 rfl (fun c_1 => ?_) (fun c_1 => ?_)
  · replace c_1 := bId_0 c_1
    refine g_iconst hC dX0_receiveErrors_22 ki_m1 23 rfl ?_
    exact g_iret (v := -1) hC (fun k9 hk9 => ⟨rfl, rfl, Nat.le_zero.mp hk9⟩) dX0_receiveErrors_23 (Nat.le_of_ble_eq_true rfl) (Nat.le_of_ble_eq_true rfl)
  · replace c_1 := bId_1 c_1
    exact absurd c_1 hx
set_option maxHeartbeats 4000000 in
theorem met_X_receiveErrors (l : Launch) (G : gG) (M : gM) (xa : Nat) (sv : Nat) (ms : Nat) (tx : Nat) (le : Int32) (ta : Nat) (of : Nat) (f : Nat → Int32) (q : Nat) (k : Nat) (hta : 2 ≤ ta ∧ ta < 9) (hk : k < 4) (hM_0 : M xa = some ((8, 0), .inr (0, [.ref of, .ref sv, .ref ms, .ref tx, .int le]))) (hP_0 : busR M G ta of f q) : Met l yX0_receiveErrors (ws_ yX0_receiveErrors cX0_receiveErrors 2 (some .int)) ({ frames := 2, cells := 0, slots := 0, locals := 45 }) (gPc G [.ref xa, .int (nI k)] M) (gQi G (fun r9 M9 k9 => r9 = (f (256 * k + 5)) ∧ M9 = M ∧ k9 = 0)) 0 0 (gA G) := by
  refine gMet [(0, .ref xa), (1, .int (nI k))] (by decide) (Nat.le_of_ble_eq_true rfl) rfl ?_
  intro p e s m below meth c hC
  refine g_iload_n hC dX0_receiveErrors_0 1 rfl 1 rfl ?_
  refine g_calliP (g_S (As := [.int (nI k)]) (rest := []) hC msX0_isNode q550 (met_X_isNode l G M (nI k)) ⟨rfl, rfl⟩ ⟨(Nat.le_of_ble_eq_true rfl), (Nat.le_of_ble_eq_true rfl)⟩ rfl (Nat.le_of_ble_eq_true rfl) dX0_receiveErrors_1 rfl ⟨(Nat.le_of_ble_eq_true rfl), (Nat.le_of_ble_eq_true rfl)⟩) 4 rfl 0 (Nat.le_of_ble_eq_true rfl) ?_
  refine g_if_eq hC dX0_receiveErrors_4 22 rfl 7 rfl (fun c_1 => ?_) (fun c_1 => ?_)
  · replace c_1 := bId_0 c_1
    exact absurd (nk_in hk) c_1
  · replace c_1 := bId_1 c_1
    obtain ⟨bn_z2, bd_z2, bh_z2, nd_z2, tn_z2, pl_z2, ol_z2, rv_z2, A_z2, x_z2, b0_z2, b1_z2, hA_z2, hN_z2, hR_z2, ht_z2, hl_z2, hp_z2, hW_z2⟩ := busR.nd hP_0 hta (show k < 4 by omega)
    obtain ⟨sa_z3, wa_z3, rc_z3, an_z3, er_z3, hO_z3⟩ := isNd.cell hN_z2
    have hph9 := (relN.ph hR_z2).2
    refine g_aload_n hC dX0_receiveErrors_7 0 rfl gRef_r 8 rfl ?_
    refine g_get (v := .ref of) hC cI0 hM_0 0 (Nat.le_of_ble_eq_true rfl) q517 rfl dX0_receiveErrors_8 11 rfl ?_
    refine g_getN (v := .ref bn_z2) hC cI1 b0_z2 0 (Nat.le_of_ble_eq_true rfl) q470 rfl dX0_receiveErrors_11 14 rfl ?_
    refine g_iload_n hC dX0_receiveErrors_14 1 rfl 15 rfl ?_
    refine g_aldq (r := some nd_z2) hC b1_z2 4 rfl (vp_in_nI (by omega) (by omega)) ((congrArg A_z2 (nI_clamp (by omega))).trans hA_z2) dX0_receiveErrors_15 16 rfl ?_
    refine g_getN (v := .int (x_z2.g 4)) hC cI2 hO_z3 4 (Nat.le_of_ble_eq_true rfl) q379 rfl dX0_receiveErrors_16 19 rfl ?_
    refine g_goto hC dX0_receiveErrors_19 23 rfl ?_
    exact g_iret (v := x_z2.g 4) hC (fun k9 hk9 => ⟨(relN.g4 hR_z2), rfl, Nat.le_zero.mp hk9⟩) dX0_receiveErrors_23 (Nat.le_of_ble_eq_true rfl) (Nat.le_of_ble_eq_true rfl)
set_option maxHeartbeats 4000000 in
theorem met_X_lostArbitrations_n (l : Launch) (G : gG) (M : gM) (xa : Nat) (sv : Nat) (ms : Nat) (tx : Nat) (le : Int32) (ta : Nat) (of : Nat) (f : Nat → Int32) (q : Nat) (x : Int32) (hx : ¬ (0 ≤ x ∧ x ≤ 3)) (hM_0 : M xa = some ((8, 0), .inr (0, [.ref of, .ref sv, .ref ms, .ref tx, .int le]))) : Met l yX0_lostArbitrations (ws_ yX0_lostArbitrations cX0_lostArbitrations 2 (some .int)) ({ frames := 2, cells := 0, slots := 0, locals := 45 }) (gPc G [.ref xa, .int x] M) (gQi G (fun r9 M9 k9 => r9 = (-1) ∧ M9 = M ∧ k9 = 0)) 0 0 (gA G) := by
  refine gMet [(0, .ref xa), (1, .int x)] (by decide) (Nat.le_of_ble_eq_true rfl) rfl ?_
  intro p e s m below meth c hC
  refine g_iload_n hC dX0_lostArbitrations_0 1 rfl 1 rfl ?_
  refine g_calliP (g_S (As := [.int x]) (rest := []) hC msX0_isNode q550 (met_X_isNode l G M x) ⟨rfl, rfl⟩ ⟨(Nat.le_of_ble_eq_true rfl), (Nat.le_of_ble_eq_true rfl)⟩ rfl (Nat.le_of_ble_eq_true rfl) dX0_lostArbitrations_1 rfl ⟨(Nat.le_of_ble_eq_true rfl), (Nat.le_of_ble_eq_true rfl)⟩) 4 rfl 0 (Nat.le_of_ble_eq_true rfl) ?_
  refine g_if_eq hC dX0_lostArbitrations_4 22 rfl 7 rfl (fun c_1 => ?_) (fun c_1 => ?_)
  · replace c_1 := bId_0 c_1
    refine g_iconst hC dX0_lostArbitrations_22 ki_m1 23 rfl ?_
    exact g_iret (v := -1) hC (fun k9 hk9 => ⟨rfl, rfl, Nat.le_zero.mp hk9⟩) dX0_lostArbitrations_23 (Nat.le_of_ble_eq_true rfl) (Nat.le_of_ble_eq_true rfl)
  · replace c_1 := bId_1 c_1
    exact absurd c_1 hx
set_option maxHeartbeats 4000000 in
theorem met_X_lostArbitrations (l : Launch) (G : gG) (M : gM) (xa : Nat) (sv : Nat) (ms : Nat) (tx : Nat) (le : Int32) (ta : Nat) (of : Nat) (f : Nat → Int32) (q : Nat) (k : Nat) (hta : 2 ≤ ta ∧ ta < 9) (hk : k < 4) (hM_0 : M xa = some ((8, 0), .inr (0, [.ref of, .ref sv, .ref ms, .ref tx, .int le]))) (hP_0 : busR M G ta of f q) : Met l yX0_lostArbitrations (ws_ yX0_lostArbitrations cX0_lostArbitrations 2 (some .int)) ({ frames := 2, cells := 0, slots := 0, locals := 45 }) (gPc G [.ref xa, .int (nI k)] M) (gQi G (fun r9 M9 k9 => r9 = (f (256 * k + 12)) ∧ M9 = M ∧ k9 = 0)) 0 0 (gA G) := by
  refine gMet [(0, .ref xa), (1, .int (nI k))] (by decide) (Nat.le_of_ble_eq_true rfl) rfl ?_
  intro p e s m below meth c hC
  refine g_iload_n hC dX0_lostArbitrations_0 1 rfl 1 rfl ?_
  refine g_calliP (g_S (As := [.int (nI k)]) (rest := []) hC msX0_isNode q550 (met_X_isNode l G M (nI k)) ⟨rfl, rfl⟩ ⟨(Nat.le_of_ble_eq_true rfl), (Nat.le_of_ble_eq_true rfl)⟩ rfl (Nat.le_of_ble_eq_true rfl) dX0_lostArbitrations_1 rfl ⟨(Nat.le_of_ble_eq_true rfl), (Nat.le_of_ble_eq_true rfl)⟩) 4 rfl 0 (Nat.le_of_ble_eq_true rfl) ?_
  refine g_if_eq hC dX0_lostArbitrations_4 22 rfl 7 rfl (fun c_1 => ?_) (fun c_1 => ?_)
  · replace c_1 := bId_0 c_1
    exact absurd (nk_in hk) c_1
  · replace c_1 := bId_1 c_1
    obtain ⟨bn_z2, bd_z2, bh_z2, nd_z2, tn_z2, pl_z2, ol_z2, rv_z2, A_z2, x_z2, b0_z2, b1_z2, hA_z2, hN_z2, hR_z2, ht_z2, hl_z2, hp_z2, hW_z2⟩ := busR.nd hP_0 hta (show k < 4 by omega)
    obtain ⟨sa_z3, wa_z3, rc_z3, an_z3, er_z3, hO_z3⟩ := isNd.cell hN_z2
    have hph9 := (relN.ph hR_z2).2
    refine g_aload_n hC dX0_lostArbitrations_7 0 rfl gRef_r 8 rfl ?_
    refine g_get (v := .ref of) hC cI0 hM_0 0 (Nat.le_of_ble_eq_true rfl) q517 rfl dX0_lostArbitrations_8 11 rfl ?_
    refine g_getN (v := .ref bn_z2) hC cI1 b0_z2 0 (Nat.le_of_ble_eq_true rfl) q470 rfl dX0_lostArbitrations_11 14 rfl ?_
    refine g_iload_n hC dX0_lostArbitrations_14 1 rfl 15 rfl ?_
    refine g_aldq (r := some nd_z2) hC b1_z2 4 rfl (vp_in_nI (by omega) (by omega)) ((congrArg A_z2 (nI_clamp (by omega))).trans hA_z2) dX0_lostArbitrations_15 16 rfl ?_
    refine g_getN (v := .int (x_z2.g 20)) hC cI2 hO_z3 20 (Nat.le_of_ble_eq_true rfl) q411 rfl dX0_lostArbitrations_16 19 rfl ?_
    refine g_goto hC dX0_lostArbitrations_19 23 rfl ?_
    exact g_iret (v := x_z2.g 20) hC (fun k9 hk9 => ⟨(relN.g20 hR_z2), rfl, Nat.le_zero.mp hk9⟩) dX0_lostArbitrations_23 (Nat.le_of_ble_eq_true rfl) (Nat.le_of_ble_eq_true rfl)
set_option maxHeartbeats 4000000 in
theorem met_X_overloads_n (l : Launch) (G : gG) (M : gM) (xa : Nat) (sv : Nat) (ms : Nat) (tx : Nat) (le : Int32) (ta : Nat) (of : Nat) (f : Nat → Int32) (q : Nat) (x : Int32) (hx : ¬ (0 ≤ x ∧ x ≤ 3)) (hM_0 : M xa = some ((8, 0), .inr (0, [.ref of, .ref sv, .ref ms, .ref tx, .int le]))) : Met l yX0_overloads (ws_ yX0_overloads cX0_overloads 2 (some .int)) ({ frames := 2, cells := 0, slots := 0, locals := 45 }) (gPc G [.ref xa, .int x] M) (gQi G (fun r9 M9 k9 => r9 = (-1) ∧ M9 = M ∧ k9 = 0)) 0 0 (gA G) := by
  refine gMet [(0, .ref xa), (1, .int x)] (by decide) (Nat.le_of_ble_eq_true rfl) rfl ?_
  intro p e s m below meth c hC
  refine g_iload_n hC dX0_overloads_0 1 rfl 1 rfl ?_
  refine g_calliP (g_S (As := [.int x]) (rest := []) hC msX0_isNode q550 (met_X_isNode l G M x) ⟨rfl, rfl⟩ ⟨(Nat.le_of_ble_eq_true rfl), (Nat.le_of_ble_eq_true rfl)⟩ rfl (Nat.le_of_ble_eq_true rfl) dX0_overloads_1 rfl ⟨(Nat.le_of_ble_eq_true rfl), (Nat.le_of_ble_eq_true rfl)⟩) 4 rfl 0 (Nat.le_of_ble_eq_true rfl) ?_
  refine g_if_eq hC dX0_overloads_4 22 rfl 7 rfl (fun c_1 => ?_) (fun c_1 => ?_)
  · replace c_1 := bId_0 c_1
    refine g_iconst hC dX0_overloads_22 ki_m1 23 rfl ?_
    exact g_iret (v := -1) hC (fun k9 hk9 => ⟨rfl, rfl, Nat.le_zero.mp hk9⟩) dX0_overloads_23 (Nat.le_of_ble_eq_true rfl) (Nat.le_of_ble_eq_true rfl)
  · replace c_1 := bId_1 c_1
    exact absurd c_1 hx
set_option maxHeartbeats 4000000 in
theorem met_X_overloads (l : Launch) (G : gG) (M : gM) (xa : Nat) (sv : Nat) (ms : Nat) (tx : Nat) (le : Int32) (ta : Nat) (of : Nat) (f : Nat → Int32) (q : Nat) (k : Nat) (hta : 2 ≤ ta ∧ ta < 9) (hk : k < 4) (hM_0 : M xa = some ((8, 0), .inr (0, [.ref of, .ref sv, .ref ms, .ref tx, .int le]))) (hP_0 : busR M G ta of f q) : Met l yX0_overloads (ws_ yX0_overloads cX0_overloads 2 (some .int)) ({ frames := 2, cells := 0, slots := 0, locals := 45 }) (gPc G [.ref xa, .int (nI k)] M) (gQi G (fun r9 M9 k9 => r9 = (f (256 * k + 13)) ∧ M9 = M ∧ k9 = 0)) 0 0 (gA G) := by
  refine gMet [(0, .ref xa), (1, .int (nI k))] (by decide) (Nat.le_of_ble_eq_true rfl) rfl ?_
  intro p e s m below meth c hC
  refine g_iload_n hC dX0_overloads_0 1 rfl 1 rfl ?_
  refine g_calliP (g_S (As := [.int (nI k)]) (rest := []) hC msX0_isNode q550 (met_X_isNode l G M (nI k)) ⟨rfl, rfl⟩ ⟨(Nat.le_of_ble_eq_true rfl), (Nat.le_of_ble_eq_true rfl)⟩ rfl (Nat.le_of_ble_eq_true rfl) dX0_overloads_1 rfl ⟨(Nat.le_of_ble_eq_true rfl), (Nat.le_of_ble_eq_true rfl)⟩) 4 rfl 0 (Nat.le_of_ble_eq_true rfl) ?_
  refine g_if_eq hC dX0_overloads_4 22 rfl 7 rfl (fun c_1 => ?_) (fun c_1 => ?_)
  · replace c_1 := bId_0 c_1
    exact absurd (nk_in hk) c_1
  · replace c_1 := bId_1 c_1
    obtain ⟨bn_z2, bd_z2, bh_z2, nd_z2, tn_z2, pl_z2, ol_z2, rv_z2, A_z2, x_z2, b0_z2, b1_z2, hA_z2, hN_z2, hR_z2, ht_z2, hl_z2, hp_z2, hW_z2⟩ := busR.nd hP_0 hta (show k < 4 by omega)
    obtain ⟨sa_z3, wa_z3, rc_z3, an_z3, er_z3, hO_z3⟩ := isNd.cell hN_z2
    have hph9 := (relN.ph hR_z2).2
    refine g_aload_n hC dX0_overloads_7 0 rfl gRef_r 8 rfl ?_
    refine g_get (v := .ref of) hC cI0 hM_0 0 (Nat.le_of_ble_eq_true rfl) q517 rfl dX0_overloads_8 11 rfl ?_
    refine g_getN (v := .ref bn_z2) hC cI1 b0_z2 0 (Nat.le_of_ble_eq_true rfl) q470 rfl dX0_overloads_11 14 rfl ?_
    refine g_iload_n hC dX0_overloads_14 1 rfl 15 rfl ?_
    refine g_aldq (r := some nd_z2) hC b1_z2 4 rfl (vp_in_nI (by omega) (by omega)) ((congrArg A_z2 (nI_clamp (by omega))).trans hA_z2) dX0_overloads_15 16 rfl ?_
    refine g_getN (v := .int (x_z2.g 21)) hC cI2 hO_z3 21 (Nat.le_of_ble_eq_true rfl) q413 rfl dX0_overloads_16 19 rfl ?_
    refine g_goto hC dX0_overloads_19 23 rfl ?_
    exact g_iret (v := x_z2.g 21) hC (fun k9 hk9 => ⟨(relN.g21 hR_z2), rfl, Nat.le_zero.mp hk9⟩) dX0_overloads_23 (Nat.le_of_ble_eq_true rfl) (Nat.le_of_ble_eq_true rfl)
set_option maxHeartbeats 4000000 in
theorem met_X_sent_n (l : Launch) (G : gG) (M : gM) (xa : Nat) (sv : Nat) (ms : Nat) (tx : Nat) (le : Int32) (ta : Nat) (of : Nat) (f : Nat → Int32) (q : Nat) (x : Int32) (hx : ¬ (0 ≤ x ∧ x ≤ 3)) (hM_0 : M xa = some ((8, 0), .inr (0, [.ref of, .ref sv, .ref ms, .ref tx, .int le]))) : Met l yX0_sent (ws_ yX0_sent cX0_sent 2 (some .int)) ({ frames := 2, cells := 0, slots := 0, locals := 45 }) (gPc G [.ref xa, .int x] M) (gQi G (fun r9 M9 k9 => r9 = (-1) ∧ M9 = M ∧ k9 = 0)) 0 0 (gA G) := by
  refine gMet [(0, .ref xa), (1, .int x)] (by decide) (Nat.le_of_ble_eq_true rfl) rfl ?_
  intro p e s m below meth c hC
  refine g_iload_n hC dX0_sent_0 1 rfl 1 rfl ?_
  refine g_calliP (g_S (As := [.int x]) (rest := []) hC msX0_isNode q550 (met_X_isNode l G M x) ⟨rfl, rfl⟩ ⟨(Nat.le_of_ble_eq_true rfl), (Nat.le_of_ble_eq_true rfl)⟩ rfl (Nat.le_of_ble_eq_true rfl) dX0_sent_1 rfl ⟨(Nat.le_of_ble_eq_true rfl), (Nat.le_of_ble_eq_true rfl)⟩) 4 rfl 0 (Nat.le_of_ble_eq_true rfl) ?_
  refine g_if_eq hC dX0_sent_4 22 rfl 7 rfl (fun c_1 => ?_) (fun c_1 => ?_)
  · replace c_1 := bId_0 c_1
    refine g_iconst hC dX0_sent_22 ki_m1 23 rfl ?_
    exact g_iret (v := -1) hC (fun k9 hk9 => ⟨rfl, rfl, Nat.le_zero.mp hk9⟩) dX0_sent_23 (Nat.le_of_ble_eq_true rfl) (Nat.le_of_ble_eq_true rfl)
  · replace c_1 := bId_1 c_1
    exact absurd c_1 hx
set_option maxHeartbeats 4000000 in
theorem met_X_sent (l : Launch) (G : gG) (M : gM) (xa : Nat) (sv : Nat) (ms : Nat) (tx : Nat) (le : Int32) (ta : Nat) (of : Nat) (f : Nat → Int32) (q : Nat) (k : Nat) (hta : 2 ≤ ta ∧ ta < 9) (hk : k < 4) (hM_0 : M xa = some ((8, 0), .inr (0, [.ref of, .ref sv, .ref ms, .ref tx, .int le]))) (hP_0 : busR M G ta of f q) : Met l yX0_sent (ws_ yX0_sent cX0_sent 2 (some .int)) ({ frames := 2, cells := 0, slots := 0, locals := 45 }) (gPc G [.ref xa, .int (nI k)] M) (gQi G (fun r9 M9 k9 => r9 = (f (256 * k + 14)) ∧ M9 = M ∧ k9 = 0)) 0 0 (gA G) := by
  refine gMet [(0, .ref xa), (1, .int (nI k))] (by decide) (Nat.le_of_ble_eq_true rfl) rfl ?_
  intro p e s m below meth c hC
  refine g_iload_n hC dX0_sent_0 1 rfl 1 rfl ?_
  refine g_calliP (g_S (As := [.int (nI k)]) (rest := []) hC msX0_isNode q550 (met_X_isNode l G M (nI k)) ⟨rfl, rfl⟩ ⟨(Nat.le_of_ble_eq_true rfl), (Nat.le_of_ble_eq_true rfl)⟩ rfl (Nat.le_of_ble_eq_true rfl) dX0_sent_1 rfl ⟨(Nat.le_of_ble_eq_true rfl), (Nat.le_of_ble_eq_true rfl)⟩) 4 rfl 0 (Nat.le_of_ble_eq_true rfl) ?_
  refine g_if_eq hC dX0_sent_4 22 rfl 7 rfl (fun c_1 => ?_) (fun c_1 => ?_)
  · replace c_1 := bId_0 c_1
    exact absurd (nk_in hk) c_1
  · replace c_1 := bId_1 c_1
    obtain ⟨bn_z2, bd_z2, bh_z2, nd_z2, tn_z2, pl_z2, ol_z2, rv_z2, A_z2, x_z2, b0_z2, b1_z2, hA_z2, hN_z2, hR_z2, ht_z2, hl_z2, hp_z2, hW_z2⟩ := busR.nd hP_0 hta (show k < 4 by omega)
    obtain ⟨sa_z3, wa_z3, rc_z3, an_z3, er_z3, hO_z3⟩ := isNd.cell hN_z2
    have hph9 := (relN.ph hR_z2).2
    refine g_aload_n hC dX0_sent_7 0 rfl gRef_r 8 rfl ?_
    refine g_get (v := .ref of) hC cI0 hM_0 0 (Nat.le_of_ble_eq_true rfl) q517 rfl dX0_sent_8 11 rfl ?_
    refine g_getN (v := .ref bn_z2) hC cI1 b0_z2 0 (Nat.le_of_ble_eq_true rfl) q470 rfl dX0_sent_11 14 rfl ?_
    refine g_iload_n hC dX0_sent_14 1 rfl 15 rfl ?_
    refine g_aldq (r := some nd_z2) hC b1_z2 4 rfl (vp_in_nI (by omega) (by omega)) ((congrArg A_z2 (nI_clamp (by omega))).trans hA_z2) dX0_sent_15 16 rfl ?_
    refine g_getN (v := .int (x_z2.g 22)) hC cI2 hO_z3 22 (Nat.le_of_ble_eq_true rfl) q416 rfl dX0_sent_16 19 rfl ?_
    refine g_goto hC dX0_sent_19 23 rfl ?_
    exact g_iret (v := x_z2.g 22) hC (fun k9 hk9 => ⟨(relN.g22 hR_z2), rfl, Nat.le_zero.mp hk9⟩) dX0_sent_23 (Nat.le_of_ble_eq_true rfl) (Nat.le_of_ble_eq_true rfl)
set_option maxHeartbeats 4000000 in
theorem met_X_overruns_n (l : Launch) (G : gG) (M : gM) (xa : Nat) (sv : Nat) (ms : Nat) (tx : Nat) (le : Int32) (ta : Nat) (of : Nat) (f : Nat → Int32) (q : Nat) (x : Int32) (hx : ¬ (0 ≤ x ∧ x ≤ 3)) (hM_0 : M xa = some ((8, 0), .inr (0, [.ref of, .ref sv, .ref ms, .ref tx, .int le]))) : Met l yX0_overruns (ws_ yX0_overruns cX0_overruns 2 (some .int)) ({ frames := 2, cells := 0, slots := 0, locals := 45 }) (gPc G [.ref xa, .int x] M) (gQi G (fun r9 M9 k9 => r9 = (-1) ∧ M9 = M ∧ k9 = 0)) 0 0 (gA G) := by
  refine gMet [(0, .ref xa), (1, .int x)] (by decide) (Nat.le_of_ble_eq_true rfl) rfl ?_
  intro p e s m below meth c hC
  refine g_iload_n hC dX0_overruns_0 1 rfl 1 rfl ?_
  refine g_calliP (g_S (As := [.int x]) (rest := []) hC msX0_isNode q550 (met_X_isNode l G M x) ⟨rfl, rfl⟩ ⟨(Nat.le_of_ble_eq_true rfl), (Nat.le_of_ble_eq_true rfl)⟩ rfl (Nat.le_of_ble_eq_true rfl) dX0_overruns_1 rfl ⟨(Nat.le_of_ble_eq_true rfl), (Nat.le_of_ble_eq_true rfl)⟩) 4 rfl 0 (Nat.le_of_ble_eq_true rfl) ?_
  refine g_if_eq hC dX0_overruns_4 22 rfl 7 rfl (fun c_1 => ?_) (fun c_1 => ?_)
  · replace c_1 := bId_0 c_1
    refine g_iconst hC dX0_overruns_22 ki_m1 23 rfl ?_
    exact g_iret (v := -1) hC (fun k9 hk9 => ⟨rfl, rfl, Nat.le_zero.mp hk9⟩) dX0_overruns_23 (Nat.le_of_ble_eq_true rfl) (Nat.le_of_ble_eq_true rfl)
  · replace c_1 := bId_1 c_1
    exact absurd c_1 hx
set_option maxHeartbeats 4000000 in
theorem met_X_overruns (l : Launch) (G : gG) (M : gM) (xa : Nat) (sv : Nat) (ms : Nat) (tx : Nat) (le : Int32) (ta : Nat) (of : Nat) (f : Nat → Int32) (q : Nat) (k : Nat) (hta : 2 ≤ ta ∧ ta < 9) (hk : k < 4) (hM_0 : M xa = some ((8, 0), .inr (0, [.ref of, .ref sv, .ref ms, .ref tx, .int le]))) (hP_0 : busR M G ta of f q) : Met l yX0_overruns (ws_ yX0_overruns cX0_overruns 2 (some .int)) ({ frames := 2, cells := 0, slots := 0, locals := 45 }) (gPc G [.ref xa, .int (nI k)] M) (gQi G (fun r9 M9 k9 => r9 = (f (256 * k + 15)) ∧ M9 = M ∧ k9 = 0)) 0 0 (gA G) := by
  refine gMet [(0, .ref xa), (1, .int (nI k))] (by decide) (Nat.le_of_ble_eq_true rfl) rfl ?_
  intro p e s m below meth c hC
  refine g_iload_n hC dX0_overruns_0 1 rfl 1 rfl ?_
  refine g_calliP (g_S (As := [.int (nI k)]) (rest := []) hC msX0_isNode q550 (met_X_isNode l G M (nI k)) ⟨rfl, rfl⟩ ⟨(Nat.le_of_ble_eq_true rfl), (Nat.le_of_ble_eq_true rfl)⟩ rfl (Nat.le_of_ble_eq_true rfl) dX0_overruns_1 rfl ⟨(Nat.le_of_ble_eq_true rfl), (Nat.le_of_ble_eq_true rfl)⟩) 4 rfl 0 (Nat.le_of_ble_eq_true rfl) ?_
  refine g_if_eq hC dX0_overruns_4 22 rfl 7 rfl (fun c_1 => ?_) (fun c_1 => ?_)
  · replace c_1 := bId_0 c_1
    exact absurd (nk_in hk) c_1
  · replace c_1 := bId_1 c_1
    obtain ⟨bn_z2, bd_z2, bh_z2, nd_z2, tn_z2, pl_z2, ol_z2, rv_z2, A_z2, x_z2, b0_z2, b1_z2, hA_z2, hN_z2, hR_z2, ht_z2, hl_z2, hp_z2, hW_z2⟩ := busR.nd hP_0 hta (show k < 4 by omega)
    obtain ⟨sa_z3, wa_z3, rc_z3, an_z3, er_z3, hO_z3⟩ := isNd.cell hN_z2
    have hph9 := (relN.ph hR_z2).2
    refine g_aload_n hC dX0_overruns_7 0 rfl gRef_r 8 rfl ?_
    refine g_get (v := .ref of) hC cI0 hM_0 0 (Nat.le_of_ble_eq_true rfl) q517 rfl dX0_overruns_8 11 rfl ?_
    refine g_getN (v := .ref bn_z2) hC cI1 b0_z2 0 (Nat.le_of_ble_eq_true rfl) q470 rfl dX0_overruns_11 14 rfl ?_
    refine g_iload_n hC dX0_overruns_14 1 rfl 15 rfl ?_
    refine g_aldq (r := some nd_z2) hC b1_z2 4 rfl (vp_in_nI (by omega) (by omega)) ((congrArg A_z2 (nI_clamp (by omega))).trans hA_z2) dX0_overruns_15 16 rfl ?_
    refine g_getN (v := .int (x_z2.g 23)) hC cI2 hO_z3 23 (Nat.le_of_ble_eq_true rfl) q418 rfl dX0_overruns_16 19 rfl ?_
    refine g_goto hC dX0_overruns_19 23 rfl ?_
    exact g_iret (v := x_z2.g 23) hC (fun k9 hk9 => ⟨(relN.g23 hR_z2), rfl, Nat.le_zero.mp hk9⟩) dX0_overruns_23 (Nat.le_of_ble_eq_true rfl) (Nat.le_of_ble_eq_true rfl)
set_option maxHeartbeats 4000000 in
theorem met_X_lastError_n (l : Launch) (G : gG) (M : gM) (xa : Nat) (sv : Nat) (ms : Nat) (tx : Nat) (le : Int32) (ta : Nat) (of : Nat) (f : Nat → Int32) (q : Nat) (x : Int32) (hx : ¬ (0 ≤ x ∧ x ≤ 3)) (hM_0 : M xa = some ((8, 0), .inr (0, [.ref of, .ref sv, .ref ms, .ref tx, .int le]))) : Met l yX0_lastError (ws_ yX0_lastError cX0_lastError 2 (some .int)) ({ frames := 2, cells := 0, slots := 0, locals := 45 }) (gPc G [.ref xa, .int x] M) (gQi G (fun r9 M9 k9 => r9 = (-1) ∧ M9 = M ∧ k9 = 0)) 0 0 (gA G) := by
  refine gMet [(0, .ref xa), (1, .int x)] (by decide) (Nat.le_of_ble_eq_true rfl) rfl ?_
  intro p e s m below meth c hC
  refine g_iload_n hC dX0_lastError_0 1 rfl 1 rfl ?_
  refine g_calliP (g_S (As := [.int x]) (rest := []) hC msX0_isNode q550 (met_X_isNode l G M x) ⟨rfl, rfl⟩ ⟨(Nat.le_of_ble_eq_true rfl), (Nat.le_of_ble_eq_true rfl)⟩ rfl (Nat.le_of_ble_eq_true rfl) dX0_lastError_1 rfl ⟨(Nat.le_of_ble_eq_true rfl), (Nat.le_of_ble_eq_true rfl)⟩) 4 rfl 0 (Nat.le_of_ble_eq_true rfl) ?_
  refine g_if_eq hC dX0_lastError_4 22 rfl 7 rfl (fun c_1 => ?_) (fun c_1 => ?_)
  · replace c_1 := bId_0 c_1
    refine g_iconst hC dX0_lastError_22 ki_m1 23 rfl ?_
    exact g_iret (v := -1) hC (fun k9 hk9 => ⟨rfl, rfl, Nat.le_zero.mp hk9⟩) dX0_lastError_23 (Nat.le_of_ble_eq_true rfl) (Nat.le_of_ble_eq_true rfl)
  · replace c_1 := bId_1 c_1
    exact absurd c_1 hx
set_option maxHeartbeats 4000000 in
theorem met_X_lastError (l : Launch) (G : gG) (M : gM) (xa : Nat) (sv : Nat) (ms : Nat) (tx : Nat) (le : Int32) (ta : Nat) (of : Nat) (f : Nat → Int32) (q : Nat) (k : Nat) (hta : 2 ≤ ta ∧ ta < 9) (hk : k < 4) (hM_0 : M xa = some ((8, 0), .inr (0, [.ref of, .ref sv, .ref ms, .ref tx, .int le]))) (hP_0 : busR M G ta of f q) : Met l yX0_lastError (ws_ yX0_lastError cX0_lastError 2 (some .int)) ({ frames := 2, cells := 0, slots := 0, locals := 45 }) (gPc G [.ref xa, .int (nI k)] M) (gQi G (fun r9 M9 k9 => r9 = (T_last f k) ∧ M9 = M ∧ k9 = 0)) 0 0 (gA G) := by
  refine gMet [(0, .ref xa), (1, .int (nI k))] (by decide) (Nat.le_of_ble_eq_true rfl) rfl ?_
  intro p e s m below meth c hC
  refine g_iload_n hC dX0_lastError_0 1 rfl 1 rfl ?_
  refine g_calliP (g_S (As := [.int (nI k)]) (rest := []) hC msX0_isNode q550 (met_X_isNode l G M (nI k)) ⟨rfl, rfl⟩ ⟨(Nat.le_of_ble_eq_true rfl), (Nat.le_of_ble_eq_true rfl)⟩ rfl (Nat.le_of_ble_eq_true rfl) dX0_lastError_1 rfl ⟨(Nat.le_of_ble_eq_true rfl), (Nat.le_of_ble_eq_true rfl)⟩) 4 rfl 0 (Nat.le_of_ble_eq_true rfl) ?_
  refine g_if_eq hC dX0_lastError_4 22 rfl 7 rfl (fun c_1 => ?_) (fun c_1 => ?_)
  · replace c_1 := bId_0 c_1
    exact absurd (nk_in hk) c_1
  · replace c_1 := bId_1 c_1
    obtain ⟨bn_z2, bd_z2, bh_z2, nd_z2, tn_z2, pl_z2, ol_z2, rv_z2, A_z2, x_z2, b0_z2, b1_z2, hA_z2, hN_z2, hR_z2, ht_z2, hl_z2, hp_z2, hW_z2⟩ := busR.nd hP_0 hta (show k < 4 by omega)
    obtain ⟨sa_z3, wa_z3, rc_z3, an_z3, er_z3, hO_z3⟩ := isNd.cell hN_z2
    have hph9 := (relN.ph hR_z2).2
    refine g_aload_n hC dX0_lastError_7 0 rfl gRef_r 8 rfl ?_
    refine g_get (v := .ref of) hC cI0 hM_0 0 (Nat.le_of_ble_eq_true rfl) q517 rfl dX0_lastError_8 11 rfl ?_
    refine g_getN (v := .ref bn_z2) hC cI1 b0_z2 0 (Nat.le_of_ble_eq_true rfl) q470 rfl dX0_lastError_11 14 rfl ?_
    refine g_iload_n hC dX0_lastError_14 1 rfl 15 rfl ?_
    refine g_aldq (r := some nd_z2) hC b1_z2 4 rfl (vp_in_nI (by omega) (by omega)) ((congrArg A_z2 (nI_clamp (by omega))).trans hA_z2) dX0_lastError_15 16 rfl ?_
    refine g_getN (v := .int (x_z2.g 19)) hC cI2 hO_z3 19 (Nat.le_of_ble_eq_true rfl) q409 rfl dX0_lastError_16 19 rfl ?_
    refine g_goto hC dX0_lastError_19 23 rfl ?_
    exact g_iret (v := x_z2.g 19) hC (fun k9 hk9 => ⟨(relN.g19 hR_z2), rfl, Nat.le_zero.mp hk9⟩) dX0_lastError_23 (Nat.le_of_ble_eq_true rfl) (Nat.le_of_ble_eq_true rfl)
set_option maxHeartbeats 4000000 in
theorem met_X_isTransmitter_n (l : Launch) (G : gG) (M : gM) (xa : Nat) (sv : Nat) (ms : Nat) (tx : Nat) (le : Int32) (ta : Nat) (of : Nat) (f : Nat → Int32) (q : Nat) (x : Int32) (hx : ¬ (0 ≤ x ∧ x ≤ 3)) (hM_0 : M xa = some ((8, 0), .inr (0, [.ref of, .ref sv, .ref ms, .ref tx, .int le]))) : Met l yX0_isTransmitter (ws_ yX0_isTransmitter cX0_isTransmitter 2 (some .int)) ({ frames := 2, cells := 0, slots := 0, locals := 45 }) (gPc G [.ref xa, .int x] M) (gQi G (fun r9 M9 k9 => r9 = (-1) ∧ M9 = M ∧ k9 = 0)) 0 0 (gA G) := by
  refine gMet [(0, .ref xa), (1, .int x)] (by decide) (Nat.le_of_ble_eq_true rfl) rfl ?_
  intro p e s m below meth c hC
  refine g_iload_n hC dX0_isTransmitter_0 1 rfl 1 rfl ?_
  refine g_calliP (g_S (As := [.int x]) (rest := []) hC msX0_isNode q550 (met_X_isNode l G M x) ⟨rfl, rfl⟩ ⟨(Nat.le_of_ble_eq_true rfl), (Nat.le_of_ble_eq_true rfl)⟩ rfl (Nat.le_of_ble_eq_true rfl) dX0_isTransmitter_1 rfl ⟨(Nat.le_of_ble_eq_true rfl), (Nat.le_of_ble_eq_true rfl)⟩) 4 rfl 0 (Nat.le_of_ble_eq_true rfl) ?_
  refine g_if_eq hC dX0_isTransmitter_4 25 rfl 7 rfl (fun c_1 => ?_) (fun c_1 => ?_)
  · replace c_1 := bId_0 c_1
    refine g_iconst hC dX0_isTransmitter_25 ki_m1 26 rfl ?_
    exact g_iret (v := -1) hC (fun k9 hk9 => ⟨rfl, rfl, Nat.le_zero.mp hk9⟩) dX0_isTransmitter_26 (Nat.le_of_ble_eq_true rfl) (Nat.le_of_ble_eq_true rfl)
  · replace c_1 := bId_1 c_1
    exact absurd c_1 hx
set_option maxHeartbeats 4000000 in
theorem met_X_isTransmitter (l : Launch) (G : gG) (M : gM) (xa : Nat) (sv : Nat) (ms : Nat) (tx : Nat) (le : Int32) (ta : Nat) (of : Nat) (f : Nat → Int32) (q : Nat) (k : Nat) (hta : 2 ≤ ta ∧ ta < 9) (hk : k < 4) (hM_0 : M xa = some ((8, 0), .inr (0, [.ref of, .ref sv, .ref ms, .ref tx, .int le]))) (hP_0 : busR M G ta of f q) : Met l yX0_isTransmitter (ws_ yX0_isTransmitter cX0_isTransmitter 2 (some .int)) ({ frames := 2, cells := 0, slots := 0, locals := 45 }) (gPc G [.ref xa, .int (nI k)] M) (gQi G (fun r9 M9 k9 => r9 = (f (256 * k + 1)) ∧ M9 = M ∧ k9 = 0)) 0 0 (gA G) := by
  refine gMet [(0, .ref xa), (1, .int (nI k))] (by decide) (Nat.le_of_ble_eq_true rfl) rfl ?_
  intro p e s m below meth c hC
  refine g_iload_n hC dX0_isTransmitter_0 1 rfl 1 rfl ?_
  refine g_calliP (g_S (As := [.int (nI k)]) (rest := []) hC msX0_isNode q550 (met_X_isNode l G M (nI k)) ⟨rfl, rfl⟩ ⟨(Nat.le_of_ble_eq_true rfl), (Nat.le_of_ble_eq_true rfl)⟩ rfl (Nat.le_of_ble_eq_true rfl) dX0_isTransmitter_1 rfl ⟨(Nat.le_of_ble_eq_true rfl), (Nat.le_of_ble_eq_true rfl)⟩) 4 rfl 0 (Nat.le_of_ble_eq_true rfl) ?_
  refine g_if_eq hC dX0_isTransmitter_4 25 rfl 7 rfl (fun c_1 => ?_) (fun c_1 => ?_)
  · replace c_1 := bId_0 c_1
    exact absurd (nk_in hk) c_1
  · replace c_1 := bId_1 c_1
    obtain ⟨bn_z2, bd_z2, bh_z2, nd_z2, tn_z2, pl_z2, ol_z2, rv_z2, A_z2, x_z2, b0_z2, b1_z2, hA_z2, hN_z2, hR_z2, ht_z2, hl_z2, hp_z2, hW_z2⟩ := busR.nd hP_0 hta (show k < 4 by omega)
    obtain ⟨sa_z3, wa_z3, rc_z3, an_z3, er_z3, hO_z3⟩ := isNd.cell hN_z2
    have hph9 := (relN.ph hR_z2).2
    refine g_aload_n hC dX0_isTransmitter_7 0 rfl gRef_r 8 rfl ?_
    refine g_get (v := .ref of) hC cI0 hM_0 0 (Nat.le_of_ble_eq_true rfl) q517 rfl dX0_isTransmitter_8 11 rfl ?_
    refine g_getN (v := .ref bn_z2) hC cI1 b0_z2 0 (Nat.le_of_ble_eq_true rfl) q470 rfl dX0_isTransmitter_11 14 rfl ?_
    refine g_iload_n hC dX0_isTransmitter_14 1 rfl 15 rfl ?_
    refine g_aldq (r := some nd_z2) hC b1_z2 4 rfl (vp_in_nI (by omega) (by omega)) ((congrArg A_z2 (nI_clamp (by omega))).trans hA_z2) dX0_isTransmitter_15 16 rfl ?_
    refine g_calliP (g_V (As := []) (rest := []) hC mvX2_isTransmitter q2323 (gOf.of hC.K cI2 hO_z3) (met_Nd_isTransmitter l G M nd_z2 (ta, 16 * k) of x_z2.ph x_z2.cu sa_z3 wa_z3 rc_z3 an_z3 er_z3 x_z2.g hph9 hO_z3) ⟨rfl, rfl⟩ ⟨(Nat.le_of_ble_eq_true rfl), (Nat.le_of_ble_eq_true rfl)⟩ rfl (Nat.le_of_ble_eq_true rfl) dX0_isTransmitter_16 rfl ⟨(Nat.le_of_ble_eq_true rfl), (Nat.le_of_ble_eq_true rfl)⟩) 19 rfl 0 (Nat.le_of_ble_eq_true rfl) ?_
    refine g_calliP (g_S (As := [.int (bI (decide (¬ x_z2.g 2 = 0 ∧ 4 ≤ x_z2.ph ∧ x_z2.ph ≤ 8)))]) (rest := []) hC msX0_bit q2331 (met_X_bit l G M (decide (¬ x_z2.g 2 = 0 ∧ 4 ≤ x_z2.ph ∧ x_z2.ph ≤ 8))) ⟨rfl, rfl⟩ ⟨(Nat.le_of_ble_eq_true rfl), (Nat.le_of_ble_eq_true rfl)⟩ rfl (Nat.le_of_ble_eq_true rfl) dX0_isTransmitter_19 rfl ⟨(Nat.le_of_ble_eq_true rfl), (Nat.le_of_ble_eq_true rfl)⟩) 22 rfl 0 (Nat.le_of_ble_eq_true rfl) ?_
    refine g_goto hC dX0_isTransmitter_22 26 rfl ?_
    exact g_iret (v := bI (decide (¬ x_z2.g 2 = 0 ∧ 4 ≤ x_z2.ph ∧ x_z2.ph ≤ 8))) hC (fun k9 hk9 => ⟨(relN.tr hR_z2), rfl, Nat.le_zero.mp hk9⟩) dX0_isTransmitter_26 (Nat.le_of_ble_eq_true rfl) (Nat.le_of_ble_eq_true rfl)
