/-! the reference: static helpers, frames as bits -/
set_option maxRecDepth 100000
set_option maxHeartbeats 4000000 in
theorem met_T_in (l : Launch) (G : gG) (M : gM) (x : Int32) (lo : Int32) (hi : Int32)   : Met l yX8_in (ws_ yX8_in cX8_in 3 (some .boolean)) ({ frames := 0, cells := 0, slots := 0, locals := 0 }) (gPc G [.int x, .int lo, .int hi] M) (gQi G (fun r9 M9 k9 => r9 = (bI (decide (lo ≤ x ∧ x ≤ hi))) ∧ M9 = M ∧ k9 = 0)) 0 0 (gA G) := by
  refine gMet [(0, .int x), (1, .int lo), (2, .int hi)] (by decide) (Nat.le_of_ble_eq_true rfl) rfl ?_
  intro p e s m below meth c hC
  refine g_iload_n hC dX8_in_0 0 rfl 1 rfl ?_
  refine g_iload_n hC dX8_in_1 1 rfl 2 rfl ?_
  refine g_icmp_lt hC dX8_in_2 14 rfl 5 rfl (fun c_1 => ?_) (fun c_1 => ?_)
  · refine g_iconst hC dX8_in_14 ki_0 15 rfl ?_
    exact g_zret (v := 0) hC (by decide) (fun k9 hk9 => ⟨(bI_nd (fun q => by first | exact absurd q.1 (Int32.not_le.mpr (by assumption)) | exact absurd q.2 (Int32.not_le.mpr (by assumption)))), rfl, Nat.le_zero.mp hk9⟩) dX8_in_15 (Nat.le_of_ble_eq_true rfl) (Nat.le_of_ble_eq_true rfl)
  · refine g_iload_n hC dX8_in_5 0 rfl 6 rfl ?_
    refine g_iload_n hC dX8_in_6 2 rfl 7 rfl ?_
    refine g_icmp_gt hC dX8_in_7 14 rfl 10 rfl (fun c_2 => ?_) (fun c_2 => ?_)
    · refine g_iconst hC dX8_in_14 ki_0 15 rfl ?_
      exact g_zret (v := 0) hC (by decide) (fun k9 hk9 => ⟨(bI_nd (fun q => by first | exact absurd q.1 (Int32.not_le.mpr (by assumption)) | exact absurd q.2 (Int32.not_le.mpr (by assumption)))), rfl, Nat.le_zero.mp hk9⟩) dX8_in_15 (Nat.le_of_ble_eq_true rfl) (Nat.le_of_ble_eq_true rfl)
    · refine g_iconst hC dX8_in_10 ki_1 11 rfl ?_
      refine g_goto hC dX8_in_11 15 rfl ?_
      exact g_zret (v := 1) hC (by decide) (fun k9 hk9 => ⟨(bI_d ⟨Int32.not_lt.mp (by assumption), Int32.not_lt.mp (by assumption)⟩), rfl, Nat.le_zero.mp hk9⟩) dX8_in_15 (Nat.le_of_ble_eq_true rfl) (Nat.le_of_ble_eq_true rfl)
set_option maxHeartbeats 4000000 in
theorem met_T_at (l : Launch) (G : gG) (M : gM) (k : Nat) (w : Nat)   : Met l yX8_at (ws_ yX8_at cX8_at 2 (some .int)) ({ frames := 0, cells := 0, slots := 0, locals := 0 }) (gPc G [.int (nI k), .int (nI w)] M) (gQi G (fun r9 M9 k9 => r9 = (nI (256 * k + w)) ∧ M9 = M ∧ k9 = 0)) 0 0 (gA G) := by
  refine gMet [(0, .int (nI k)), (1, .int (nI w))] (by decide) (Nat.le_of_ble_eq_true rfl) rfl ?_
  intro p e s m below meth c hC
  refine g_sipush hC dX8_at_0 ks_256 3 rfl ?_
  refine g_iload_n hC dX8_at_3 0 rfl 4 rfl ?_
  refine g_imul hC dX8_at_4 5 rfl ?_
  refine g_topi (y := nI (256 * k)) (nI_m (a := 256) (b := k) (c := (256 * k)) (by omega)) ?_
  refine g_iload_n hC dX8_at_5 1 rfl 6 rfl ?_
  refine g_iadd hC dX8_at_6 7 rfl ?_
  refine g_topi (y := nI (256 * k + w)) (nI_a (a := (256 * k)) (b := w) (c := (256 * k + w)) (by omega)) ?_
  exact g_iret (v := nI (256 * k + w)) hC (fun k9 hk9 => ⟨rfl, rfl, Nat.le_zero.mp hk9⟩) dX8_at_7 (Nat.le_of_ble_eq_true rfl) (Nat.le_of_ble_eq_true rfl)
set_option maxHeartbeats 4000000 in
theorem met_T_wait (l : Launch) (G : gG) (M : gM) (k : Nat) (i : Nat) (w : Nat)   : Met l yX8_wait (ws_ yX8_wait cX8_wait 3 (some .int)) ({ frames := 0, cells := 0, slots := 0, locals := 0 }) (gPc G [.int (nI k), .int (nI i), .int (nI w)] M) (gQi G (fun r9 M9 k9 => r9 = (nI (256 * k + 5 * i + w + 30)) ∧ M9 = M ∧ k9 = 0)) 0 0 (gA G) := by
  refine gMet [(0, .int (nI k)), (1, .int (nI i)), (2, .int (nI w))] (by decide) (Nat.le_of_ble_eq_true rfl) rfl ?_
  intro p e s m below meth c hC
  refine g_sipush hC dX8_wait_0 ks_256 3 rfl ?_
  refine g_iload_n hC dX8_wait_3 0 rfl 4 rfl ?_
  refine g_imul hC dX8_wait_4 5 rfl ?_
  refine g_topi (y := nI (256 * k)) (nI_m (a := 256) (b := k) (c := (256 * k)) (by omega)) ?_
  refine g_bipush hC dX8_wait_5 kb_30 7 rfl ?_
  refine g_iadd hC dX8_wait_7 8 rfl ?_
  refine g_topi (y := nI (256 * k + 30)) (nI_a (a := (256 * k)) (b := 30) (c := (256 * k + 30)) (by omega)) ?_
  refine g_iconst hC dX8_wait_8 ki_5 9 rfl ?_
  refine g_iload_n hC dX8_wait_9 1 rfl 10 rfl ?_
  refine g_imul hC dX8_wait_10 11 rfl ?_
  refine g_topi (y := nI (5 * i)) (nI_m (a := 5) (b := i) (c := (5 * i)) (by omega)) ?_
  refine g_iadd hC dX8_wait_11 12 rfl ?_
  refine g_topi (y := nI (256 * k + 5 * i + 30)) (nI_a (a := (256 * k + 30)) (b := (5 * i)) (c := (256 * k + 5 * i + 30)) (by omega)) ?_
  refine g_iload_n hC dX8_wait_12 2 rfl 13 rfl ?_
  refine g_iadd hC dX8_wait_13 14 rfl ?_
  refine g_topi (y := nI (256 * k + 5 * i + w + 30)) (nI_a (a := (256 * k + 5 * i + 30)) (b := w) (c := (256 * k + 5 * i + w + 30)) (by omega)) ?_
  exact g_iret (v := nI (256 * k + 5 * i + w + 30)) hC (fun k9 hk9 => ⟨rfl, rfl, Nat.le_zero.mp hk9⟩) dX8_wait_14 (Nat.le_of_ble_eq_true rfl) (Nat.le_of_ble_eq_true rfl)
set_option maxHeartbeats 4000000 in
theorem met_T_got (l : Launch) (G : gG) (M : gM) (k : Nat) (i : Nat) (w : Nat)   : Met l yX8_got (ws_ yX8_got cX8_got 3 (some .int)) ({ frames := 0, cells := 0, slots := 0, locals := 0 }) (gPc G [.int (nI k), .int (nI i), .int (nI w)] M) (gQi G (fun r9 M9 k9 => r9 = (nI (256 * k + 4 * i + w + 50)) ∧ M9 = M ∧ k9 = 0)) 0 0 (gA G) := by
  refine gMet [(0, .int (nI k)), (1, .int (nI i)), (2, .int (nI w))] (by decide) (Nat.le_of_ble_eq_true rfl) rfl ?_
  intro p e s m below meth c hC
  refine g_sipush hC dX8_got_0 ks_256 3 rfl ?_
  refine g_iload_n hC dX8_got_3 0 rfl 4 rfl ?_
  refine g_imul hC dX8_got_4 5 rfl ?_
  refine g_topi (y := nI (256 * k)) (nI_m (a := 256) (b := k) (c := (256 * k)) (by omega)) ?_
  refine g_bipush hC dX8_got_5 kb_50 7 rfl ?_
  refine g_iadd hC dX8_got_7 8 rfl ?_
  refine g_topi (y := nI (256 * k + 50)) (nI_a (a := (256 * k)) (b := 50) (c := (256 * k + 50)) (by omega)) ?_
  refine g_iconst hC dX8_got_8 ki_4 9 rfl ?_
  refine g_iload_n hC dX8_got_9 1 rfl 10 rfl ?_
  refine g_imul hC dX8_got_10 11 rfl ?_
  refine g_topi (y := nI (4 * i)) (nI_m (a := 4) (b := i) (c := (4 * i)) (by omega)) ?_
  refine g_iadd hC dX8_got_11 12 rfl ?_
  refine g_topi (y := nI (256 * k + 4 * i + 50)) (nI_a (a := (256 * k + 50)) (b := (4 * i)) (c := (256 * k + 4 * i + 50)) (by omega)) ?_
  refine g_iload_n hC dX8_got_12 2 rfl 13 rfl ?_
  refine g_iadd hC dX8_got_13 14 rfl ?_
  refine g_topi (y := nI (256 * k + 4 * i + w + 50)) (nI_a (a := (256 * k + 4 * i + 50)) (b := w) (c := (256 * k + 4 * i + w + 50)) (by omega)) ?_
  exact g_iret (v := nI (256 * k + 4 * i + w + 50)) hC (fun k9 hk9 => ⟨rfl, rfl, Nat.le_zero.mp hk9⟩) dX8_got_14 (Nat.le_of_ble_eq_true rfl) (Nat.le_of_ble_eq_true rfl)
set_option maxHeartbeats 4000000 in
theorem met_T_answer (l : Launch) (G : gG) (M : gM) (k : Nat) (i : Nat) (w : Nat)   : Met l yX8_answer (ws_ yX8_answer cX8_answer 3 (some .int)) ({ frames := 0, cells := 0, slots := 0, locals := 0 }) (gPc G [.int (nI k), .int (nI i), .int (nI w)] M) (gQi G (fun r9 M9 k9 => r9 = (nI (256 * k + 3 * i + w + 74)) ∧ M9 = M ∧ k9 = 0)) 0 0 (gA G) := by
  refine gMet [(0, .int (nI k)), (1, .int (nI i)), (2, .int (nI w))] (by decide) (Nat.le_of_ble_eq_true rfl) rfl ?_
  intro p e s m below meth c hC
  refine g_sipush hC dX8_answer_0 ks_256 3 rfl ?_
  refine g_iload_n hC dX8_answer_3 0 rfl 4 rfl ?_
  refine g_imul hC dX8_answer_4 5 rfl ?_
  refine g_topi (y := nI (256 * k)) (nI_m (a := 256) (b := k) (c := (256 * k)) (by omega)) ?_
  refine g_bipush hC dX8_answer_5 kb_74 7 rfl ?_
  refine g_iadd hC dX8_answer_7 8 rfl ?_
  refine g_topi (y := nI (256 * k + 74)) (nI_a (a := (256 * k)) (b := 74) (c := (256 * k + 74)) (by omega)) ?_
  refine g_iconst hC dX8_answer_8 ki_3 9 rfl ?_
  refine g_iload_n hC dX8_answer_9 1 rfl 10 rfl ?_
  refine g_imul hC dX8_answer_10 11 rfl ?_
  refine g_topi (y := nI (3 * i)) (nI_m (a := 3) (b := i) (c := (3 * i)) (by omega)) ?_
  refine g_iadd hC dX8_answer_11 12 rfl ?_
  refine g_topi (y := nI (256 * k + 3 * i + 74)) (nI_a (a := (256 * k + 74)) (b := (3 * i)) (c := (256 * k + 3 * i + 74)) (by omega)) ?_
  refine g_iload_n hC dX8_answer_12 2 rfl 13 rfl ?_
  refine g_iadd hC dX8_answer_13 14 rfl ?_
  refine g_topi (y := nI (256 * k + 3 * i + w + 74)) (nI_a (a := (256 * k + 3 * i + 74)) (b := w) (c := (256 * k + 3 * i + w + 74)) (by omega)) ?_
  exact g_iret (v := nI (256 * k + 3 * i + w + 74)) hC (fun k9 hk9 => ⟨rfl, rfl, Nat.le_zero.mp hk9⟩) dX8_answer_14 (Nat.le_of_ble_eq_true rfl) (Nat.le_of_ble_eq_true rfl)
set_option maxHeartbeats 4000000 in
theorem met_T_isNode (l : Launch) (G : gG) (M : gM) (x : Int32)   : Met l yX8_isNode (ws_ yX8_isNode cX8_isNode 1 (some .boolean)) ({ frames := 1, cells := 0, slots := 0, locals := 22 }) (gPc G [.int x] M) (gQi G (fun r9 M9 k9 => r9 = (bI (decide (0 ≤ x ∧ x ≤ 3))) ∧ M9 = M ∧ k9 = 0)) 0 0 (gA G) := by
  refine gMet [(0, .int x)] (by decide) (Nat.le_of_ble_eq_true rfl) rfl ?_
  intro p e s m below meth c hC
  refine g_iload_n hC dX8_isNode_0 0 rfl 1 rfl ?_
  refine g_iconst hC dX8_isNode_1 ki_0 2 rfl ?_
  refine g_iconst hC dX8_isNode_2 ki_3 3 rfl ?_
  refine g_calliP (g_S (As := [.int x, .int 0, .int 3]) (rest := []) hC msX8_in q2984 (met_T_in l G M x 0 3) ⟨rfl, rfl⟩ ⟨(Nat.le_of_ble_eq_true rfl), (Nat.le_of_ble_eq_true rfl)⟩ rfl (Nat.le_of_ble_eq_true rfl) dX8_isNode_3 rfl ⟨(Nat.le_of_ble_eq_true rfl), (Nat.le_of_ble_eq_true rfl)⟩) 6 rfl 0 (Nat.le_of_ble_eq_true rfl) ?_
  exact g_zret (v := bI (decide (0 ≤ x ∧ x ≤ 3))) hC (bI_n (decide (0 ≤ x ∧ x ≤ 3))) (fun k9 hk9 => ⟨rfl, rfl, Nat.le_zero.mp hk9⟩) dX8_isNode_6 (Nat.le_of_ble_eq_true rfl) (Nat.le_of_ble_eq_true rfl)
abbrev okF (id : Int32) (rm : Bool) (ln da : Int32) : Prop := (0 ≤ id ∧ id ≤ 2047) ∧ (0 ≤ ln ∧ ln ≤ 4) ∧ (ln = 4 ∨ ushr da (8 * ln) = 0) ∧ ¬ (rm = true ∧ ¬ da = 0)
set_option maxHeartbeats 4000000 in
theorem met_T_isFrame (l : Launch) (G : gG) (M : gM) (id : Int32) (rm : Bool) (ln : Int32) (da : Int32)   : Met l yX8_isFrame (ws_ yX8_isFrame cX8_isFrame 5 (some .boolean)) ({ frames := 1, cells := 0, slots := 0, locals := 22 }) (gPc G [.int id, .int (bI rm), .int ln, .int da] M) (gQi G (fun r9 M9 k9 => r9 = (bI (decide (okF id rm ln da))) ∧ M9 = M ∧ k9 = 0)) 0 0 (gA G) := by
  refine gMet [(0, .int id), (1, .int (bI rm)), (2, .int ln), (3, .int da)] (by decide) (Nat.le_of_ble_eq_true rfl) rfl ?_
  intro p e s m below meth c hC
  refine g_iload_n hC dX8_isFrame_0 0 rfl 1 rfl ?_
  refine g_iconst hC dX8_isFrame_1 ki_0 2 rfl ?_
  refine g_sipush hC dX8_isFrame_2 ks_2047 5 rfl ?_
  refine g_calliP (g_S (As := [.int id, .int 0, .int 2047]) (rest := []) hC msX8_in q2984 (met_T_in l G M id 0 2047) ⟨rfl, rfl⟩ ⟨(Nat.le_of_ble_eq_true rfl), (Nat.le_of_ble_eq_true rfl)⟩ rfl (Nat.le_of_ble_eq_true rfl) dX8_isFrame_5 rfl ⟨(Nat.le_of_ble_eq_true rfl), (Nat.le_of_ble_eq_true rfl)⟩) 8 rfl 0 (Nat.le_of_ble_eq_true rfl) ?_
  refine g_if_eq hC dX8_isFrame_8 32 rfl 11 rfl (fun c_1 => ?_) (fun c_1 => ?_)
  · replace c_1 := bId_0 c_1
    refine g_iconst hC dX8_isFrame_32 ki_0 33 rfl ?_
    refine g_istore hC dX8_isFrame_33 (Nat.le_of_ble_eq_true rfl) [(4, .int 0), (0, .int id), (1, .int (bI rm)), (2, .int ln), (3, .int da)] rfl 35 rfl ?_
    refine g_iload hC dX8_isFrame_35 0 rfl 37 rfl ?_
    refine g_if_eq hC dX8_isFrame_37 58 rfl 40 rfl (fun c_2 => ?_) (fun c_2 => ?_)
    · refine g_iconst hC dX8_isFrame_58 ki_0 59 rfl ?_
      exact g_zret (v := 0) hC (by decide) (fun k9 hk9 => ⟨(bI_nd (by first | (simp_all [okF, bI]; done) | grind)), rfl, Nat.le_zero.mp hk9⟩) dX8_isFrame_59 (Nat.le_of_ble_eq_true rfl) (Nat.le_of_ble_eq_true rfl)
    · exact absurd c_2 (by decide)
  · replace c_1 := bId_1 c_1
    refine g_iload_n hC dX8_isFrame_11 2 rfl 12 rfl ?_
    refine g_iconst hC dX8_isFrame_12 ki_0 13 rfl ?_
    refine g_iconst hC dX8_isFrame_13 ki_4 14 rfl ?_
    refine g_calliP (g_S (As := [.int ln, .int 0, .int 4]) (rest := []) hC msX8_in q2984 (met_T_in l G M ln 0 4) ⟨rfl, rfl⟩ ⟨(Nat.le_of_ble_eq_true rfl), (Nat.le_of_ble_eq_true rfl)⟩ rfl (Nat.le_of_ble_eq_true rfl) dX8_isFrame_14 rfl ⟨(Nat.le_of_ble_eq_true rfl), (Nat.le_of_ble_eq_true rfl)⟩) 17 rfl 0 (Nat.le_of_ble_eq_true rfl) ?_
    refine g_if_eq hC dX8_isFrame_17 32 rfl 20 rfl (fun c_3 => ?_) (fun c_3 => ?_)
    · replace c_3 := bId_0 c_3
      refine g_iconst hC dX8_isFrame_32 ki_0 33 rfl ?_
      refine g_istore hC dX8_isFrame_33 (Nat.le_of_ble_eq_true rfl) [(4, .int 0), (0, .int id), (1, .int (bI rm)), (2, .int ln), (3, .int da)] rfl 35 rfl ?_
      refine g_iload hC dX8_isFrame_35 0 rfl 37 rfl ?_
      refine g_if_eq hC dX8_isFrame_37 58 rfl 40 rfl (fun c_4 => ?_) (fun c_4 => ?_)
      · refine g_iconst hC dX8_isFrame_58 ki_0 59 rfl ?_
        exact g_zret (v := 0) hC (by decide) (fun k9 hk9 => ⟨(bI_nd (by first | (simp_all [okF, bI]; done) | grind)), rfl, Nat.le_zero.mp hk9⟩) dX8_isFrame_59 (Nat.le_of_ble_eq_true rfl) (Nat.le_of_ble_eq_true rfl)
      · exact absurd c_4 (by decide)
    · replace c_3 := bId_1 c_3
      refine g_iload_n hC dX8_isFrame_20 1 rfl 21 rfl ?_
      refine g_if_eq hC dX8_isFrame_21 28 rfl 24 rfl (fun c_5 => ?_) (fun c_5 => ?_)
      · replace c_5 : rm = false := bB_e0 c_5
        refine g_iconst hC dX8_isFrame_28 ki_1 29 rfl ?_
        refine g_goto hC dX8_isFrame_29 33 rfl ?_
        refine g_istore hC dX8_isFrame_33 (Nat.le_of_ble_eq_true rfl) [(4, .int 1), (0, .int id), (1, .int (bI rm)), (2, .int ln), (3, .int da)] rfl 35 rfl ?_
        refine g_iload hC dX8_isFrame_35 0 rfl 37 rfl ?_
        refine g_if_eq hC dX8_isFrame_37 58 rfl 40 rfl (fun c_6 => ?_) (fun c_6 => ?_)
        · exact absurd c_6 (by decide)
        · refine g_iload_n hC dX8_isFrame_40 3 rfl 41 rfl ?_
          refine g_iconst hC dX8_isFrame_41 ki_4 42 rfl ?_
          refine g_icmp_eq hC dX8_isFrame_42 54 rfl 45 rfl (fun c_7 => ?_) (fun c_7 => ?_)
          · refine g_iconst hC dX8_isFrame_54 ki_1 55 rfl ?_
            refine g_goto hC dX8_isFrame_55 59 rfl ?_
            exact g_zret (v := 1) hC (by decide) (fun k9 hk9 => ⟨(bI_d (by first | (simp_all [okF, bI]; done) | grind)), rfl, Nat.le_zero.mp hk9⟩) dX8_isFrame_59 (Nat.le_of_ble_eq_true rfl) (Nat.le_of_ble_eq_true rfl)
          · refine g_iload_n hC dX8_isFrame_45 4 rfl 46 rfl ?_
            refine g_bipush hC dX8_isFrame_46 kb_8 48 rfl ?_
            refine g_iload_n hC dX8_isFrame_48 3 rfl 49 rfl ?_
            refine g_imul hC dX8_isFrame_49 50 rfl ?_
            refine g_iushr (v := ushr da (8 * ln)) hC dX8_isFrame_50 rfl 51 rfl ?_
            refine g_if_ne hC dX8_isFrame_51 58 rfl 54 rfl (fun c_8 => ?_) (fun c_8 => ?_)
            · refine g_iconst hC dX8_isFrame_58 ki_0 59 rfl ?_
              exact g_zret (v := 0) hC (by decide) (fun k9 hk9 => ⟨(bI_nd (by first | (simp_all [okF, bI]; done) | grind)), rfl, Nat.le_zero.mp hk9⟩) dX8_isFrame_59 (Nat.le_of_ble_eq_true rfl) (Nat.le_of_ble_eq_true rfl)
            · refine g_iconst hC dX8_isFrame_54 ki_1 55 rfl ?_
              refine g_goto hC dX8_isFrame_55 59 rfl ?_
              exact g_zret (v := 1) hC (by decide) (fun k9 hk9 => ⟨(bI_d (by first | (simp_all [okF, bI]; done) | grind)), rfl, Nat.le_zero.mp hk9⟩) dX8_isFrame_59 (Nat.le_of_ble_eq_true rfl) (Nat.le_of_ble_eq_true rfl)
      · replace c_5 : rm = true := bB_n0 c_5
        refine g_iload_n hC dX8_isFrame_24 3 rfl 25 rfl ?_
        refine g_if_ne hC dX8_isFrame_25 32 rfl 28 rfl (fun c_9 => ?_) (fun c_9 => ?_)
        · refine g_iconst hC dX8_isFrame_32 ki_0 33 rfl ?_
          refine g_istore hC dX8_isFrame_33 (Nat.le_of_ble_eq_true rfl) [(4, .int 0), (0, .int id), (1, .int (bI rm)), (2, .int ln), (3, .int da)] rfl 35 rfl ?_
          refine g_iload hC dX8_isFrame_35 0 rfl 37 rfl ?_
          refine g_if_eq hC dX8_isFrame_37 58 rfl 40 rfl (fun c_10 => ?_) (fun c_10 => ?_)
          · refine g_iconst hC dX8_isFrame_58 ki_0 59 rfl ?_
            exact g_zret (v := 0) hC (by decide) (fun k9 hk9 => ⟨(bI_nd (by first | (simp_all [okF, bI]; done) | grind)), rfl, Nat.le_zero.mp hk9⟩) dX8_isFrame_59 (Nat.le_of_ble_eq_true rfl) (Nat.le_of_ble_eq_true rfl)
          · exact absurd c_10 (by decide)
        · refine g_iconst hC dX8_isFrame_28 ki_1 29 rfl ?_
          refine g_goto hC dX8_isFrame_29 33 rfl ?_
          refine g_istore hC dX8_isFrame_33 (Nat.le_of_ble_eq_true rfl) [(4, .int 1), (0, .int id), (1, .int (bI rm)), (2, .int ln), (3, .int da)] rfl 35 rfl ?_
          refine g_iload hC dX8_isFrame_35 0 rfl 37 rfl ?_
          refine g_if_eq hC dX8_isFrame_37 58 rfl 40 rfl (fun c_11 => ?_) (fun c_11 => ?_)
          · exact absurd c_11 (by decide)
          · refine g_iload_n hC dX8_isFrame_40 3 rfl 41 rfl ?_
            refine g_iconst hC dX8_isFrame_41 ki_4 42 rfl ?_
            refine g_icmp_eq hC dX8_isFrame_42 54 rfl 45 rfl (fun c_12 => ?_) (fun c_12 => ?_)
            · refine g_iconst hC dX8_isFrame_54 ki_1 55 rfl ?_
              refine g_goto hC dX8_isFrame_55 59 rfl ?_
              exact g_zret (v := 1) hC (by decide) (fun k9 hk9 => ⟨(bI_d (by first | (simp_all [okF, bI]; done) | grind)), rfl, Nat.le_zero.mp hk9⟩) dX8_isFrame_59 (Nat.le_of_ble_eq_true rfl) (Nat.le_of_ble_eq_true rfl)
            · refine g_iload_n hC dX8_isFrame_45 4 rfl 46 rfl ?_
              refine g_bipush hC dX8_isFrame_46 kb_8 48 rfl ?_
              refine g_iload_n hC dX8_isFrame_48 3 rfl 49 rfl ?_
              refine g_imul hC dX8_isFrame_49 50 rfl ?_
              refine g_iushr (v := ushr da (8 * ln)) hC dX8_isFrame_50 rfl 51 rfl ?_
              refine g_if_ne hC dX8_isFrame_51 58 rfl 54 rfl (fun c_13 => ?_) (fun c_13 => ?_)
              · refine g_iconst hC dX8_isFrame_58 ki_0 59 rfl ?_
                exact g_zret (v := 0) hC (by decide) (fun k9 hk9 => ⟨(bI_nd (by first | (simp_all [okF, bI]; done) | grind)), rfl, Nat.le_zero.mp hk9⟩) dX8_isFrame_59 (Nat.le_of_ble_eq_true rfl) (Nat.le_of_ble_eq_true rfl)
              · refine g_iconst hC dX8_isFrame_54 ki_1 55 rfl ?_
                refine g_goto hC dX8_isFrame_55 59 rfl ?_
                exact g_zret (v := 1) hC (by decide) (fun k9 hk9 => ⟨(bI_d (by first | (simp_all [okF, bI]; done) | grind)), rfl, Nat.le_zero.mp hk9⟩) dX8_isFrame_59 (Nat.le_of_ble_eq_true rfl) (Nat.le_of_ble_eq_true rfl)
def worstF (ln : Int32) : Int32 := 47 + 8 * ln + (33 + 8 * ln) / 4
set_option maxHeartbeats 4000000 in
theorem met_T_worst (l : Launch) (G : gG) (M : gM) (ln : Int32)   : Met l yX8_worst (ws_ yX8_worst cX8_worst 1 (some .int)) ({ frames := 0, cells := 0, slots := 0, locals := 0 }) (gPc G [.int ln] M) (gQi G (fun r9 M9 k9 => r9 = (worstF ln) ∧ M9 = M ∧ k9 = 0)) 0 0 (gA G) := by
  refine gMet [(0, .int ln)] (by decide) (Nat.le_of_ble_eq_true rfl) rfl ?_
  intro p e s m below meth c hC
  refine g_bipush hC dX8_worst_0 kb_47 2 rfl ?_
  refine g_bipush hC dX8_worst_2 kb_8 4 rfl ?_
  refine g_iload_n hC dX8_worst_4 0 rfl 5 rfl ?_
  refine g_imul hC dX8_worst_5 6 rfl ?_
  refine g_iadd hC dX8_worst_6 7 rfl ?_
  refine g_bipush hC dX8_worst_7 kb_33 9 rfl ?_
  refine g_bipush hC dX8_worst_9 kb_8 11 rfl ?_
  refine g_iload_n hC dX8_worst_11 0 rfl 12 rfl ?_
  refine g_imul hC dX8_worst_12 13 rfl ?_
  refine g_iadd hC dX8_worst_13 14 rfl ?_
  refine g_iconst hC dX8_worst_14 ki_4 15 rfl ?_
  refine g_idiv hC dX8_worst_15 (by decide) 16 rfl ?_
  refine g_iadd hC dX8_worst_16 17 rfl ?_
  exact g_iret (v := (47 + (8 * ln)) + ((33 + (8 * ln)) / 4)) hC (fun k9 hk9 => ⟨(by first | rfl | (simp only [worstF, if_true, if_false, true_and, and_true, false_and, and_false, true_or, or_true, false_or, or_false, not_true_eq_false, not_false_eq_true, reduceIte, decide_true, decide_false, Bool.false_eq_true]; done) | (simp only [worstF, if_true, if_false, true_and, and_true, false_and, and_false, true_or, or_true, false_or, or_false, not_true_eq_false, not_false_eq_true, reduceIte, decide_true, decide_false, Bool.false_eq_true]; rfl) | (simp only [worstF, if_true, if_false, true_and, and_true, false_and, and_false, true_or, or_true, false_or, or_false, not_true_eq_false, not_false_eq_true, reduceIte, decide_true, decide_false, Bool.false_eq_true]; done) | (simp only [worstF]; simp only [if_true, if_false, true_and, and_true, false_and, and_false, true_or, or_true, false_or, or_false, not_true_eq_false, not_false_eq_true, reduceIte, decide_true, decide_false, Bool.false_eq_true]; done) | (simp only [worstF]; simp only [if_true, if_false, true_and, and_true, false_and, and_false, true_or, or_true, false_or, or_false, not_true_eq_false, not_false_eq_true, reduceIte, decide_true, decide_false, Bool.false_eq_true]; done) | (simp only [worstF]; simp only [if_true, if_false, true_and, and_true, false_and, and_false, true_or, or_true, false_or, or_false, not_true_eq_false, not_false_eq_true, reduceIte, decide_true, decide_false, Bool.false_eq_true]; simp only [worstF]; done) | (simp only [worstF, if_true, if_false, true_and, and_true, false_and, and_false, true_or, or_true, false_or, or_false, not_true_eq_false, not_false_eq_true, reduceIte, decide_true, decide_false, Bool.false_eq_true]; rfl) | (simp only [worstF]; simp only [if_true, if_false, true_and, and_true, false_and, and_false, true_or, or_true, false_or, or_false, not_true_eq_false, not_false_eq_true, reduceIte, decide_true, decide_false, Bool.false_eq_true]; rfl) | (simp only [worstF]; rfl) | (simp only [worstF, if_true, if_false, true_and, and_true, false_and, and_false, true_or, or_true, false_or, or_false, not_true_eq_false, not_false_eq_true, reduceIte, decide_true, decide_false, Bool.false_eq_true]; rfl) | (simp_all [worstF]; done)), rfl, Nat.le_zero.mp hk9⟩) dX8_worst_17 (Nat.le_of_ble_eq_true rfl) (Nat.le_of_ble_eq_true rfl)
def hexF (c : Int32) : Int32 := if 48 ≤ c ∧ c ≤ 57 then c - 48 else if 97 ≤ c ∧ c ≤ 102 then c - 97 + 10 else -1
set_option maxHeartbeats 4000000 in
theorem met_T_hex (l : Launch) (G : gG) (M : gM) (x : Int32)   : Met l yX8_hex (ws_ yX8_hex cX8_hex 1 (some .int)) ({ frames := 1, cells := 0, slots := 0, locals := 22 }) (gPc G [.int x] M) (gQi G (fun r9 M9 k9 => r9 = (hexF x) ∧ M9 = M ∧ k9 = 0)) 0 0 (gA G) := by
  refine gMet [(0, .int x)] (by decide) (Nat.le_of_ble_eq_true rfl) rfl ?_
  intro p e s m below meth c hC
  refine g_iload_n hC dX8_hex_0 0 rfl 1 rfl ?_
  refine g_bipush hC dX8_hex_1 kb_48 3 rfl ?_
  refine g_bipush hC dX8_hex_3 kb_57 5 rfl ?_
  refine g_calliP (g_S (As := [.int x, .int 48, .int 57]) (rest := []) hC msX8_in q2984 (met_T_in l G M x 48 57) ⟨rfl, rfl⟩ ⟨(Nat.le_of_ble_eq_true rfl), (Nat.le_of_ble_eq_true rfl)⟩ rfl (Nat.le_of_ble_eq_true rfl) dX8_hex_5 rfl ⟨(Nat.le_of_ble_eq_true rfl), (Nat.le_of_ble_eq_true rfl)⟩) 8 rfl 0 (Nat.le_of_ble_eq_true rfl) ?_
  refine g_if_eq hC dX8_hex_8 18 rfl 11 rfl (fun c_1 => ?_) (fun c_1 => ?_)
  · replace c_1 := bId_0 c_1
    refine g_iload_n hC dX8_hex_18 0 rfl 19 rfl ?_
    refine g_bipush hC dX8_hex_19 kb_97 21 rfl ?_
    refine g_bipush hC dX8_hex_21 kb_102 23 rfl ?_
    refine g_calliP (g_S (As := [.int x, .int 97, .int 102]) (rest := []) hC msX8_in q2984 (met_T_in l G M x 97 102) ⟨rfl, rfl⟩ ⟨(Nat.le_of_ble_eq_true rfl), (Nat.le_of_ble_eq_true rfl)⟩ rfl (Nat.le_of_ble_eq_true rfl) dX8_hex_23 rfl ⟨(Nat.le_of_ble_eq_true rfl), (Nat.le_of_ble_eq_true rfl)⟩) 26 rfl 0 (Nat.le_of_ble_eq_true rfl) ?_
    refine g_if_eq hC dX8_hex_26 39 rfl 29 rfl (fun c_2 => ?_) (fun c_2 => ?_)
    · replace c_2 := bId_0 c_2
      refine g_iconst hC dX8_hex_39 ki_m1 40 rfl ?_
      exact g_iret (v := -1) hC (fun k9 hk9 => ⟨(by first | rfl | (simp only [hexF, eq_false c_1, eq_false c_2, if_true, if_false, true_and, and_true, false_and, and_false, true_or, or_true, false_or, or_false, not_true_eq_false, not_false_eq_true, reduceIte, decide_true, decide_false, Bool.false_eq_true]; done) | (simp only [hexF, eq_false c_1, eq_false c_2, if_true, if_false, true_and, and_true, false_and, and_false, true_or, or_true, false_or, or_false, not_true_eq_false, not_false_eq_true, reduceIte, decide_true, decide_false, Bool.false_eq_true]; rfl) | (simp only [hexF, c_1, c_2, if_true, if_false, true_and, and_true, false_and, and_false, true_or, or_true, false_or, or_false, not_true_eq_false, not_false_eq_true, reduceIte, decide_true, decide_false, Bool.false_eq_true]; done) | (simp only [hexF]; simp only [if_true, if_false, true_and, and_true, false_and, and_false, true_or, or_true, false_or, or_false, not_true_eq_false, not_false_eq_true, reduceIte, decide_true, decide_false, Bool.false_eq_true, eq_false c_1, eq_false c_2]; done) | (simp only [hexF]; simp only [if_true, if_false, true_and, and_true, false_and, and_false, true_or, or_true, false_or, or_false, not_true_eq_false, not_false_eq_true, reduceIte, decide_true, decide_false, Bool.false_eq_true, c_1, c_2]; done) | (simp only [hexF]; simp only [if_true, if_false, true_and, and_true, false_and, and_false, true_or, or_true, false_or, or_false, not_true_eq_false, not_false_eq_true, reduceIte, decide_true, decide_false, Bool.false_eq_true, c_1, c_2]; simp only [hexF]; done) | (simp only [hexF, c_1, c_2, if_true, if_false, true_and, and_true, false_and, and_false, true_or, or_true, false_or, or_false, not_true_eq_false, not_false_eq_true, reduceIte, decide_true, decide_false, Bool.false_eq_true]; rfl) | (simp only [hexF]; simp only [if_true, if_false, true_and, and_true, false_and, and_false, true_or, or_true, false_or, or_false, not_true_eq_false, not_false_eq_true, reduceIte, decide_true, decide_false, Bool.false_eq_true, c_1, c_2]; rfl) | (simp only [hexF]; rfl) | (simp only [hexF, c_1, c_2, if_true, if_false, true_and, and_true, false_and, and_false, true_or, or_true, false_or, or_false, not_true_eq_false, not_false_eq_true, reduceIte, decide_true, decide_false, Bool.false_eq_true]; rfl) | (simp_all [hexF]; done)), rfl, Nat.le_zero.mp hk9⟩) dX8_hex_40 (Nat.le_of_ble_eq_true rfl) (Nat.le_of_ble_eq_true rfl)
    · replace c_2 := bId_1 c_2
      refine g_iload_n hC dX8_hex_29 0 rfl 30 rfl ?_
      refine g_bipush hC dX8_hex_30 kb_97 32 rfl ?_
      refine g_isub hC dX8_hex_32 33 rfl ?_
      refine g_bipush hC dX8_hex_33 kb_10 35 rfl ?_
      refine g_iadd hC dX8_hex_35 36 rfl ?_
      refine g_goto hC dX8_hex_36 40 rfl ?_
      exact g_iret (v := (x - 97) + 10) hC (fun k9 hk9 => ⟨(by first | rfl | (simp only [hexF, eq_false c_1, eq_true c_2, if_true, if_false, true_and, and_true, false_and, and_false, true_or, or_true, false_or, or_false, not_true_eq_false, not_false_eq_true, reduceIte, decide_true, decide_false, Bool.false_eq_true]; done) | (simp only [hexF, eq_false c_1, eq_true c_2, if_true, if_false, true_and, and_true, false_and, and_false, true_or, or_true, false_or, or_false, not_true_eq_false, not_false_eq_true, reduceIte, decide_true, decide_false, Bool.false_eq_true]; rfl) | (simp only [hexF, c_1, c_2, if_true, if_false, true_and, and_true, false_and, and_false, true_or, or_true, false_or, or_false, not_true_eq_false, not_false_eq_true, reduceIte, decide_true, decide_false, Bool.false_eq_true]; done) | (simp only [hexF]; simp only [if_true, if_false, true_and, and_true, false_and, and_false, true_or, or_true, false_or, or_false, not_true_eq_false, not_false_eq_true, reduceIte, decide_true, decide_false, Bool.false_eq_true, eq_false c_1, eq_true c_2]; done) | (simp only [hexF]; simp only [if_true, if_false, true_and, and_true, false_and, and_false, true_or, or_true, false_or, or_false, not_true_eq_false, not_false_eq_true, reduceIte, decide_true, decide_false, Bool.false_eq_true, c_1, c_2]; done) | (simp only [hexF]; simp only [if_true, if_false, true_and, and_true, false_and, and_false, true_or, or_true, false_or, or_false, not_true_eq_false, not_false_eq_true, reduceIte, decide_true, decide_false, Bool.false_eq_true, c_1, c_2]; simp only [hexF]; done) | (simp only [hexF, c_1, c_2, if_true, if_false, true_and, and_true, false_and, and_false, true_or, or_true, false_or, or_false, not_true_eq_false, not_false_eq_true, reduceIte, decide_true, decide_false, Bool.false_eq_true]; rfl) | (simp only [hexF]; simp only [if_true, if_false, true_and, and_true, false_and, and_false, true_or, or_true, false_or, or_false, not_true_eq_false, not_false_eq_true, reduceIte, decide_true, decide_false, Bool.false_eq_true, c_1, c_2]; rfl) | (simp only [hexF]; rfl) | (simp only [hexF, c_1, c_2, if_true, if_false, true_and, and_true, false_and, and_false, true_or, or_true, false_or, or_false, not_true_eq_false, not_false_eq_true, reduceIte, decide_true, decide_false, Bool.false_eq_true]; rfl) | (simp_all [hexF]; done)), rfl, Nat.le_zero.mp hk9⟩) dX8_hex_40 (Nat.le_of_ble_eq_true rfl) (Nat.le_of_ble_eq_true rfl)
  · replace c_1 := bId_1 c_1
    refine g_iload_n hC dX8_hex_11 0 rfl 12 rfl ?_
    refine g_bipush hC dX8_hex_12 kb_48 14 rfl ?_
    refine g_isub hC dX8_hex_14 15 rfl ?_
    refine g_goto hC dX8_hex_15 40 rfl ?_
    exact g_iret (v := x - 48) hC (fun k9 hk9 => ⟨(by first | rfl | (simp only [hexF, eq_true c_1, if_true, if_false, true_and, and_true, false_and, and_false, true_or, or_true, false_or, or_false, not_true_eq_false, not_false_eq_true, reduceIte, decide_true, decide_false, Bool.false_eq_true]; done) | (simp only [hexF, eq_true c_1, if_true, if_false, true_and, and_true, false_and, and_false, true_or, or_true, false_or, or_false, not_true_eq_false, not_false_eq_true, reduceIte, decide_true, decide_false, Bool.false_eq_true]; rfl) | (simp only [hexF, c_1, if_true, if_false, true_and, and_true, false_and, and_false, true_or, or_true, false_or, or_false, not_true_eq_false, not_false_eq_true, reduceIte, decide_true, decide_false, Bool.false_eq_true]; done) | (simp only [hexF]; simp only [if_true, if_false, true_and, and_true, false_and, and_false, true_or, or_true, false_or, or_false, not_true_eq_false, not_false_eq_true, reduceIte, decide_true, decide_false, Bool.false_eq_true, eq_true c_1]; done) | (simp only [hexF]; simp only [if_true, if_false, true_and, and_true, false_and, and_false, true_or, or_true, false_or, or_false, not_true_eq_false, not_false_eq_true, reduceIte, decide_true, decide_false, Bool.false_eq_true, c_1]; done) | (simp only [hexF]; simp only [if_true, if_false, true_and, and_true, false_and, and_false, true_or, or_true, false_or, or_false, not_true_eq_false, not_false_eq_true, reduceIte, decide_true, decide_false, Bool.false_eq_true, c_1]; simp only [hexF]; done) | (simp only [hexF, c_1, if_true, if_false, true_and, and_true, false_and, and_false, true_or, or_true, false_or, or_false, not_true_eq_false, not_false_eq_true, reduceIte, decide_true, decide_false, Bool.false_eq_true]; rfl) | (simp only [hexF]; simp only [if_true, if_false, true_and, and_true, false_and, and_false, true_or, or_true, false_or, or_false, not_true_eq_false, not_false_eq_true, reduceIte, decide_true, decide_false, Bool.false_eq_true, c_1]; rfl) | (simp only [hexF]; rfl) | (simp only [hexF, c_1, if_true, if_false, true_and, and_true, false_and, and_false, true_or, or_true, false_or, or_false, not_true_eq_false, not_false_eq_true, reduceIte, decide_true, decide_false, Bool.false_eq_true]; rfl) | (simp_all [hexF]; done)), rfl, Nat.le_zero.mp hk9⟩) dX8_hex_40 (Nat.le_of_ble_eq_true rfl) (Nat.le_of_ble_eq_true rfl)
set_option maxHeartbeats 4000000 in
theorem met_T_more (l : Launch) (G : gG) (M : gM) (h : Int64) (x : Int32)   : Met l yX8_more (ws_ yX8_more cX8_more 3 (some .long)) ({ frames := 0, cells := 0, slots := 0, locals := 0 }) (gPc G [.long h, .int x] M) (gQl G (fun r9 M9 k9 => r9 = (31 * h + Int32.toInt64 x) ∧ M9 = M ∧ k9 = 0)) 0 0 (gA G) := by
  refine gMet [(0, .long h), (2, .int x)] (by decide) (Nat.le_of_ble_eq_true rfl) rfl ?_
  intro p e s m below meth c hC
  refine g_ldc2 hC q3382 dX8_more_0 3 rfl ?_
  refine g_lload_n hC dX8_more_3 0 rfl 4 rfl ?_
  refine g_lmul hC dX8_more_4 5 rfl ?_
  refine g_iload_n hC dX8_more_5 1 rfl 6 rfl ?_
  refine g_i2l hC dX8_more_6 7 rfl ?_
  refine g_ladd hC dX8_more_7 8 rfl ?_
  exact g_lret (v := (31 * h) + (Int32.toInt64 x)) hC (fun k9 hk9 => ⟨(by first | rfl | (simp only [if_true, if_false, true_and, and_true, false_and, and_false, true_or, or_true, false_or, or_false, not_true_eq_false, not_false_eq_true, reduceIte, decide_true, decide_false, Bool.false_eq_true]; done) | (simp only [if_true, if_false, true_and, and_true, false_and, and_false, true_or, or_true, false_or, or_false, not_true_eq_false, not_false_eq_true, reduceIte, decide_true, decide_false, Bool.false_eq_true]; rfl) | (simp only [if_true, if_false, true_and, and_true, false_and, and_false, true_or, or_true, false_or, or_false, not_true_eq_false, not_false_eq_true, reduceIte, decide_true, decide_false, Bool.false_eq_true]; done) | (simp only []; simp only [if_true, if_false, true_and, and_true, false_and, and_false, true_or, or_true, false_or, or_false, not_true_eq_false, not_false_eq_true, reduceIte, decide_true, decide_false, Bool.false_eq_true]; done) | (simp only []; simp only [if_true, if_false, true_and, and_true, false_and, and_false, true_or, or_true, false_or, or_false, not_true_eq_false, not_false_eq_true, reduceIte, decide_true, decide_false, Bool.false_eq_true]; done) | (simp only []; simp only [if_true, if_false, true_and, and_true, false_and, and_false, true_or, or_true, false_or, or_false, not_true_eq_false, not_false_eq_true, reduceIte, decide_true, decide_false, Bool.false_eq_true]; simp only []; done) | (simp only [if_true, if_false, true_and, and_true, false_and, and_false, true_or, or_true, false_or, or_false, not_true_eq_false, not_false_eq_true, reduceIte, decide_true, decide_false, Bool.false_eq_true]; rfl) | (simp only []; simp only [if_true, if_false, true_and, and_true, false_and, and_false, true_or, or_true, false_or, or_false, not_true_eq_false, not_false_eq_true, reduceIte, decide_true, decide_false, Bool.false_eq_true]; rfl) | (simp only []; rfl) | (simp only [if_true, if_false, true_and, and_true, false_and, and_false, true_or, or_true, false_or, or_false, not_true_eq_false, not_false_eq_true, reduceIte, decide_true, decide_false, Bool.false_eq_true]; rfl) | (simp_all []; done)), rfl, Nat.le_zero.mp hk9⟩) dX8_more_8 (Nat.le_of_ble_eq_true rfl) (Nat.le_of_ble_eq_true rfl)
def crcS (r b : Int32) : Int32 := if b ^^^ (r >>> ((14 : Int32) &&& 31) &&& 1) = 1 then (r <<< ((1 : Int32) &&& 31) &&& 32767) ^^^ 17817 else r <<< ((1 : Int32) &&& 31) &&& 32767
def crcT (f : Nat → Int32) (fr : Nat) : Nat → Int32
  | 0 => 0
  | k + 1 => crcS (crcT f fr k) (f (fr + k))
set_option maxHeartbeats 4000000 in
theorem met_T_crcOf (l : Launch) (G : gG) (M : gM) (a : Nat) (t : Nat × Nat) (n0 : Nat) (f : Nat → Int32) (fr : Nat) (mn : Nat) (hb : fr + mn ≤ n0) (hn0 : n0 < 10000) (hM_0 : M a = some (t, .inl (gcs G 0, n0, .inl f))) : Met l yX8_crcOf (ws_ yX8_crcOf cX8_crcOf 6 (some .int)) ({ frames := 0, cells := 0, slots := 0, locals := 0 }) (gPc G [.ref a, .int (nI fr), .int (nI mn)] M) (gQi G (fun r9 M9 k9 => r9 = (crcT f fr mn) ∧ M9 = M ∧ k9 = 0)) 0 0 (gA G) := by
  refine gMet [(0, .ref a), (1, .int (nI fr)), (2, .int (nI mn))] (by decide) (Nat.le_of_ble_eq_true rfl) rfl ?_
  intro p e s m below meth c hC
  refine g_iconst hC dX8_crcOf_0 ki_0 1 rfl ?_
  refine g_istore_n hC dX8_crcOf_1 rfl (Nat.le_of_ble_eq_true rfl) [(3, .int 0), (0, .ref a), (1, .int (nI fr)), (2, .int (nI mn))] rfl 2 rfl ?_
  refine g_iconst hC dX8_crcOf_2 ki_0 3 rfl ?_
  refine g_istore hC dX8_crcOf_3 (Nat.le_of_ble_eq_true rfl) [(4, .int 0), (3, .int 0), (0, .ref a), (1, .int (nI fr)), (2, .int (nI mn))] rfl 5 rfl ?_
  have loop5 : ∀ (n9 : Nat) (i : Nat) (r : Int32), (hi : i ≤ mn) → (hr : r = crcT f fr i) → mn - i < n9 → (M a = some (t, .inl (gcs G 0, n0, .inl f))) → gJ p l e ({ frames := 0, cells := 0, slots := 0, locals := 0 } : Room) s m ([.ref a, .int (nI fr), .int (nI mn)] : List Value).toArray below meth c G 6 (MQ below (gQi G (fun r9 M9 k9 => r9 = (crcT f fr mn) ∧ M9 = M ∧ k9 = 0)) ([.ref a, .int (nI fr), .int (nI mn)] : List Value).toArray s 0 0 (gA G)) 0 0 M 5 [(0, .ref a), (1, .int (nI fr)), (2, .int (nI mn)), (3, .int r), (4, .int (nI i))] [] := by
    intro n9
    induction n9 with
    | zero => intro i r hi hr hmu; exact absurd hmu (Nat.not_lt_zero _)
    | succ n9 ih =>
      intro i r hi hr hmu hL_0
      refine g_iload hC dX8_crcOf_5 4 rfl 7 rfl ?_
      refine g_iload_n hC dX8_crcOf_7 2 rfl 8 rfl ?_
      refine g_icmp_ge hC dX8_crcOf_8 56 rfl 11 rfl (fun c_1 => ?_) (fun c_1 => ?_)
      · replace c_1 : mn ≤ i := nn_le (by omega) (by omega) c_1
        refine g_iload_n hC dX8_crcOf_56 3 rfl 57 rfl ?_
        exact g_iret (v := r) hC (fun k9 hk9 => ⟨(by rw [hr, show mn = i by omega]), rfl, Nat.le_zero.mp hk9⟩) dX8_crcOf_57 (Nat.le_of_ble_eq_true rfl) (Nat.le_of_ble_eq_true rfl)
      · replace c_1 : i < mn := nn_nle (by omega) (by omega) c_1
        refine g_aload_n hC dX8_crcOf_11 0 rfl gRef_r 12 rfl ?_
        refine g_iload_n hC dX8_crcOf_12 1 rfl 13 rfl ?_
        refine g_iload hC dX8_crcOf_13 4 rfl 15 rfl ?_
        refine g_iadd hC dX8_crcOf_15 16 rfl ?_
        refine g_topi (y := nI (fr + i)) (nI_a (a := fr) (b := i) (c := (fr + i)) (by omega)) ?_
        refine g_iald (v := f (fr + i)) hC hL_0 0 rfl (vp_in_nI (by omega) (by omega)) ((congrArg f (nI_clamp (by omega))).trans rfl) dX8_crcOf_16 17 rfl ?_
        refine g_iload_n hC dX8_crcOf_17 3 rfl 18 rfl ?_
        refine g_bipush hC dX8_crcOf_18 kb_14 20 rfl ?_
        refine g_ishr hC dX8_crcOf_20 21 rfl ?_
        refine g_iconst hC dX8_crcOf_21 ki_1 22 rfl ?_
        refine g_iand hC dX8_crcOf_22 23 rfl ?_
        refine g_ixor hC dX8_crcOf_23 24 rfl ?_
        refine g_istore hC dX8_crcOf_24 (Nat.le_of_ble_eq_true rfl) [(5, .int ((f (fr + i)) ^^^ ((r >>> (14 &&& 31)) &&& 1))), (0, .ref a), (1, .int (nI fr)), (2, .int (nI mn)), (3, .int r), (4, .int (nI i))] rfl 26 rfl ?_
        refine g_iload_n hC dX8_crcOf_26 4 rfl 27 rfl ?_
        refine g_iconst hC dX8_crcOf_27 ki_1 28 rfl ?_
        refine g_ishl hC dX8_crcOf_28 29 rfl ?_
        refine g_sipush hC dX8_crcOf_29 ks_32767 32 rfl ?_
        refine g_iand hC dX8_crcOf_32 33 rfl ?_
        refine g_istore_n hC dX8_crcOf_33 rfl (Nat.le_of_ble_eq_true rfl) [(3, .int ((r <<< (1 &&& 31)) &&& 32767)), (5, .int ((f (fr + i)) ^^^ ((r >>> (14 &&& 31)) &&& 1))), (0, .ref a), (1, .int (nI fr)), (2, .int (nI mn)), (4, .int (nI i))] rfl 34 rfl ?_
        refine g_iload hC dX8_crcOf_34 1 rfl 36 rfl ?_
        refine g_iconst hC dX8_crcOf_36 ki_1 37 rfl ?_
        refine g_icmp_ne hC dX8_crcOf_37 48 rfl 40 rfl (fun c_2 => ?_) (fun c_2 => ?_)
        · refine g_iload_n hC dX8_crcOf_48 0 rfl 49 rfl ?_
          refine g_istore_n hC dX8_crcOf_49 rfl (Nat.le_of_ble_eq_true rfl) [(3, .int ((r <<< (1 &&& 31)) &&& 32767)), (5, .int ((f (fr + i)) ^^^ ((r >>> (14 &&& 31)) &&& 1))), (0, .ref a), (1, .int (nI fr)), (2, .int (nI mn)), (4, .int (nI i))] rfl 50 rfl ?_
          refine g_iinc hC dX8_crcOf_50 5 rfl (v := nI (i + 1)) (by rw [ki_1]; exact nI_a (a := i) (b := 1) (c := (i + 1)) (by omega)) (Nat.le_of_ble_eq_true rfl) [(4, .int (nI (i + 1))), (3, .int ((r <<< (1 &&& 31)) &&& 32767)), (5, .int ((f (fr + i)) ^^^ ((r >>> (14 &&& 31)) &&& 1))), (0, .ref a), (1, .int (nI fr)), (2, .int (nI mn))] rfl 53 rfl ?_
          refine g_goto hC dX8_crcOf_53 5 rfl ?_
          refine gJ.sub (M' := M) [3, 4, 5, 1, 0] rfl ?_
          exact ih (i + 1) ((r <<< (1 &&& 31)) &&& 32767) (by omega) (by show _ = crcS (crcT f fr i) (f (fr + i)); rw [← hr]; simp only [crcS, c_2, if_true, if_false]) (by omega) hL_0
        · refine g_iload_n hC dX8_crcOf_40 0 rfl 41 rfl ?_
          refine g_sipush hC dX8_crcOf_41 ks_17817 44 rfl ?_
          refine g_ixor hC dX8_crcOf_44 45 rfl ?_
          refine g_goto hC dX8_crcOf_45 49 rfl ?_
          refine g_istore_n hC dX8_crcOf_49 rfl (Nat.le_of_ble_eq_true rfl) [(3, .int (((r <<< (1 &&& 31)) &&& 32767) ^^^ 17817)), (5, .int ((f (fr + i)) ^^^ ((r >>> (14 &&& 31)) &&& 1))), (0, .ref a), (1, .int (nI fr)), (2, .int (nI mn)), (4, .int (nI i))] rfl 50 rfl ?_
          refine g_iinc hC dX8_crcOf_50 5 rfl (v := nI (i + 1)) (by rw [ki_1]; exact nI_a (a := i) (b := 1) (c := (i + 1)) (by omega)) (Nat.le_of_ble_eq_true rfl) [(4, .int (nI (i + 1))), (3, .int (((r <<< (1 &&& 31)) &&& 32767) ^^^ 17817)), (5, .int ((f (fr + i)) ^^^ ((r >>> (14 &&& 31)) &&& 1))), (0, .ref a), (1, .int (nI fr)), (2, .int (nI mn))] rfl 53 rfl ?_
          refine g_goto hC dX8_crcOf_53 5 rfl ?_
          refine gJ.sub (M' := M) [3, 4, 5, 1, 0] rfl ?_
          exact ih (i + 1) (((r <<< (1 &&& 31)) &&& 32767) ^^^ 17817) (by omega) (by show _ = crcS (crcT f fr i) (f (fr + i)); rw [← hr]; simp only [crcS, c_2, if_true, if_false]) (by omega) hL_0
  refine gJ.sub (M' := M) [2, 3, 4, 1, 0] rfl ?_
  exact loop5 _ 0 0 (by omega) rfl (Nat.lt_succ_self _) hM_0
def bitsT (f : Nat → Int32) (fr : Nat) (x : Int32) (mn : Nat) : Nat → Nat → Int32
  | 0 => f
  | k + 1 => upd (bitsT f fr x mn k) (fr + k) (x >>> ((nI mn - 1 - nI k) &&& 31) &&& 1)
set_option maxHeartbeats 4000000 in
theorem met_T_bits (l : Launch) (G : gG) (M : gM) (a : Nat) (t : Nat × Nat) (n0 : Nat) (f : Nat → Int32) (fr : Nat) (x : Int32) (mn : Nat) (hb : fr + mn ≤ n0) (hn0 : n0 < 10000) (hM_0 : M a = some (t, .inl (gcs G 0, n0, .inl f))) : Met l yX8_bits (ws_ yX8_bits cX8_bits 5 none) ({ frames := 0, cells := 0, slots := 0, locals := 0 }) (gPc G [.ref a, .int (nI fr), .int x, .int (nI mn)] M) (gQv G (fun M9 k9 => M9 a = some (t, .inl (gcs G 0, n0, .inl (bitsT f fr x mn mn))) ∧ gFr (gL [a]) M M9 ∧ k9 = 0)) 0 0 (gA G) := by
  refine gMet [(0, .ref a), (1, .int (nI fr)), (2, .int x), (3, .int (nI mn))] (by decide) (Nat.le_of_ble_eq_true rfl) rfl ?_
  intro p e s m below meth c hC
  refine g_iconst hC dX8_bits_0 ki_0 1 rfl ?_
  refine g_istore hC dX8_bits_1 (Nat.le_of_ble_eq_true rfl) [(4, .int 0), (0, .ref a), (1, .int (nI fr)), (2, .int x), (3, .int (nI mn))] rfl 3 rfl ?_
  have loop3 : ∀ (n9 : Nat) (i : Nat) (F : Nat → Int32) (ML : gM), (hi : i ≤ mn) → (hF : F = bitsT f fr x mn i) → mn - i < n9 → (ML a = some (t, .inl (gcs G 0, n0, .inl F))) → gFr (gL [a]) M ML → gJ p l e ({ frames := 0, cells := 0, slots := 0, locals := 0 } : Room) s m ([.ref a, .int (nI fr), .int x, .int (nI mn)] : List Value).toArray below meth c G 5 (MQ below (gQv G (fun M9 k9 => M9 a = some (t, .inl (gcs G 0, n0, .inl (bitsT f fr x mn mn))) ∧ gFr (gL [a]) M M9 ∧ k9 = 0)) ([.ref a, .int (nI fr), .int x, .int (nI mn)] : List Value).toArray s 0 0 (gA G)) 0 0 ML 3 [(0, .ref a), (1, .int (nI fr)), (2, .int x), (3, .int (nI mn)), (4, .int (nI i))] [] := by
    intro n9
    induction n9 with
    | zero => intro i F ML hi hF hmu; exact absurd hmu (Nat.not_lt_zero _)
    | succ n9 ih =>
      intro i F ML hi hF hmu hL_0 hLF
      refine g_iload hC dX8_bits_3 4 rfl 5 rfl ?_
      refine g_iload_n hC dX8_bits_5 3 rfl 6 rfl ?_
      refine g_icmp_ge hC dX8_bits_6 31 rfl 9 rfl (fun c_1 => ?_) (fun c_1 => ?_)
      · replace c_1 : mn ≤ i := nn_le (by omega) (by omega) c_1
        exact g_vret hC (fun k9 hk9 => ⟨(by rw [hL_0, hF, show mn = i by omega]), hLF, (by first | exact Nat.le_zero.mp hk9 | omega)⟩) dX8_bits_31 (Nat.le_of_ble_eq_true rfl) (Nat.le_of_ble_eq_true rfl)
      · replace c_1 : i < mn := nn_nle (by omega) (by omega) c_1
        refine g_aload_n hC dX8_bits_9 0 rfl gRef_r 10 rfl ?_
        refine g_iload_n hC dX8_bits_10 1 rfl 11 rfl ?_
        refine g_iload hC dX8_bits_11 4 rfl 13 rfl ?_
        refine g_iadd hC dX8_bits_13 14 rfl ?_
        refine g_topi (y := nI (fr + i)) (nI_a (a := fr) (b := i) (c := (fr + i)) (by omega)) ?_
        refine g_iload_n hC dX8_bits_14 2 rfl 15 rfl ?_
        refine g_iload_n hC dX8_bits_15 3 rfl 16 rfl ?_
        refine g_iconst hC dX8_bits_16 ki_1 17 rfl ?_
        refine g_isub hC dX8_bits_17 18 rfl ?_
        refine g_iload hC dX8_bits_18 4 rfl 20 rfl ?_
        refine g_isub hC dX8_bits_20 21 rfl ?_
        refine g_ishr hC dX8_bits_21 22 rfl ?_
        refine g_iconst hC dX8_bits_22 ki_1 23 rfl ?_
        refine g_iand hC dX8_bits_23 24 rfl ?_
        refine g_iast hC hL_0 0 rfl (vp_in_nI (by omega) (by omega)) (fr + i) (nI_clamp (by omega)) dX8_bits_24 25 rfl (fun M2 hU3 => ?_)
        obtain ⟨F4, eF5⟩ : ∃ z, z = upd F (fr + i) ((x >>> ((((nI mn) - 1) - (nI i)) &&& 31)) &&& 1) := ⟨_, rfl⟩
        rw [← eF5] at hU3
        refine g_iinc hC dX8_bits_25 4 rfl (v := nI (i + 1)) (by rw [ki_1]; exact nI_a (a := i) (b := 1) (c := (i + 1)) (by omega)) (Nat.le_of_ble_eq_true rfl) [(4, .int (nI (i + 1))), (0, .ref a), (1, .int (nI fr)), (2, .int x), (3, .int (nI mn))] rfl 28 rfl ?_
        refine g_goto hC dX8_bits_28 3 rfl ?_
        refine gJ.sub (M' := M2) [1, 2, 3, 4, 0] rfl ?_
        exact ih (i + 1) F4 M2 (by omega) (by rw [eF5, hF]; rfl) (by omega) hU3.1 (hLF.up hU3 hL_0 (by simp))
  refine gJ.sub (M' := M) [1, 2, 3, 4, 0] rfl ?_
  exact loop3 _ 0 f M (by omega) rfl (Nat.lt_succ_self _) hM_0 gFr.refl
