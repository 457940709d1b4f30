/-! the reference: cancel, disturb, what was received, winner -/
set_option maxRecDepth 100000
set_option maxHeartbeats 4000000 in
theorem met_T_errors_x (l : Launch) (G : gG) (M : gM) (o : Nat) (av : Nat) (asp : Nat) (ak : Nat) (aik : Nat) (atx : Nat) (le : Int32) (am : Nat) (mn : Int32) (aa : Nat) (pl : Int32) (ato : Nat) (f : Nat → Int32) (x : Int32) (y : Int32) (hx : ¬ (0 ≤ x ∧ x ≤ 3)) (hM_0 : M o = some ((1, 0), .inr (7, [.ref av, .ref asp, .ref ak, .ref aik, .ref atx, .int le, .ref am, .int mn, .ref aa, .int pl, .ref ato]))) (hM_1 : M av = some ((1, 1), .inl (gcs G 0, 1310, .inl f))) : Met l yX8_errors (ws_ yX8_errors cX8_errors 3 (some .int)) ({ frames := 2, cells := 0, slots := 0, locals := 42 }) (gPc G [.ref o, .int x, .int y] M) (gQi G (fun r9 M9 k9 => r9 = (-1) ∧ M9 = M ∧ k9 = 0)) 0 0 (gA G) := by
  refine gMet [(0, .ref o), (1, .int x), (2, .int y)] (by decide) (Nat.le_of_ble_eq_true rfl) rfl ?_
  intro p e s m below meth c hC
  refine g_iload_n hC dX8_errors_0 1 rfl 1 rfl ?_
  refine g_calliP (g_S (As := [.int x]) (rest := []) hC msX8_isNode q3023 (met_T_isNode l G M x) ⟨rfl, rfl⟩ ⟨(Nat.le_of_ble_eq_true rfl), (Nat.le_of_ble_eq_true rfl)⟩ rfl (Nat.le_of_ble_eq_true rfl) dX8_errors_1 rfl ⟨(Nat.le_of_ble_eq_true rfl), (Nat.le_of_ble_eq_true rfl)⟩) 4 rfl 0 (Nat.le_of_ble_eq_true rfl) ?_
  refine g_if_ne hC dX8_errors_4 9 rfl 7 rfl (fun c_1 => ?_) (fun c_1 => ?_)
  · replace c_1 := bId_1 c_1
    exact absurd c_1 hx
  · replace c_1 := bId_0 c_1
    refine g_iconst hC dX8_errors_7 ki_m1 8 rfl ?_
    exact g_iret (v := -1) hC (fun k9 hk9 => ⟨rfl, rfl, Nat.le_zero.mp hk9⟩) dX8_errors_8 (Nat.le_of_ble_eq_true rfl) (Nat.le_of_ble_eq_true rfl)
set_option maxHeartbeats 4000000 in
theorem met_T_errors_y (l : Launch) (G : gG) (M : gM) (o : Nat) (av : Nat) (asp : Nat) (ak : Nat) (aik : Nat) (atx : Nat) (le : Int32) (am : Nat) (mn : Int32) (aa : Nat) (pl : Int32) (ato : Nat) (f : Nat → Int32) (k : Nat) (y : Int32) (hk : k < 4) (hy : ¬ (1 ≤ y ∧ y ≤ 5)) (hM_0 : M o = some ((1, 0), .inr (7, [.ref av, .ref asp, .ref ak, .ref aik, .ref atx, .int le, .ref am, .int mn, .ref aa, .int pl, .ref ato]))) (hM_1 : M av = some ((1, 1), .inl (gcs G 0, 1310, .inl f))) : Met l yX8_errors (ws_ yX8_errors cX8_errors 3 (some .int)) ({ frames := 2, cells := 0, slots := 0, locals := 42 }) (gPc G [.ref o, .int (nI k), .int y] M) (gQi G (fun r9 M9 k9 => r9 = (-2) ∧ M9 = M ∧ k9 = 0)) 0 0 (gA G) := by
  refine gMet [(0, .ref o), (1, .int (nI k)), (2, .int y)] (by decide) (Nat.le_of_ble_eq_true rfl) rfl ?_
  intro p e s m below meth c hC
  refine g_iload_n hC dX8_errors_0 1 rfl 1 rfl ?_
  refine g_calliP (g_S (As := [.int (nI k)]) (rest := []) hC msX8_isNode q3023 (met_T_isNode l G M (nI k)) ⟨rfl, rfl⟩ ⟨(Nat.le_of_ble_eq_true rfl), (Nat.le_of_ble_eq_true rfl)⟩ rfl (Nat.le_of_ble_eq_true rfl) dX8_errors_1 rfl ⟨(Nat.le_of_ble_eq_true rfl), (Nat.le_of_ble_eq_true rfl)⟩) 4 rfl 0 (Nat.le_of_ble_eq_true rfl) ?_
  refine g_if_ne hC dX8_errors_4 9 rfl 7 rfl (fun c_1 => ?_) (fun c_1 => ?_)
  · replace c_1 := bId_1 c_1
    refine g_iload_n hC dX8_errors_9 2 rfl 10 rfl ?_
    refine g_iconst hC dX8_errors_10 ki_1 11 rfl ?_
    refine g_iconst hC dX8_errors_11 ki_5 12 rfl ?_
    refine g_calliP (g_S (As := [.int y, .int 1, .int 5]) (rest := []) hC msX8_in q2984 (met_T_in l G M y 1 5) ⟨rfl, rfl⟩ ⟨(Nat.le_of_ble_eq_true rfl), (Nat.le_of_ble_eq_true rfl)⟩ rfl (Nat.le_of_ble_eq_true rfl) dX8_errors_12 rfl ⟨(Nat.le_of_ble_eq_true rfl), (Nat.le_of_ble_eq_true rfl)⟩) 15 rfl 0 (Nat.le_of_ble_eq_true rfl) ?_
    refine g_if_eq hC dX8_errors_15 33 rfl 18 rfl (fun c_2 => ?_) (fun c_2 => ?_)
    · replace c_2 := bId_0 c_2
      refine g_bipush hC dX8_errors_33 kb_m2 35 rfl ?_
      exact g_iret (v := -2) hC (fun k9 hk9 => ⟨rfl, rfl, Nat.le_zero.mp hk9⟩) dX8_errors_35 (Nat.le_of_ble_eq_true rfl) (Nat.le_of_ble_eq_true rfl)
    · replace c_2 := bId_1 c_2
      exact absurd c_2 hy
  · replace c_1 := bId_0 c_1
    exact absurd (nk_in hk) c_1
set_option maxHeartbeats 4000000 in
theorem met_T_errors (l : Launch) (G : gG) (M : gM) (o : Nat) (av : Nat) (asp : Nat) (ak : Nat) (aik : Nat) (atx : Nat) (le : Int32) (am : Nat) (mn : Int32) (aa : Nat) (pl : Int32) (ato : Nat) (f : Nat → Int32) (k : Nat) (kd : Nat) (hk : k < 4) (h1 : 1 ≤ kd) (h5 : kd ≤ 5) (hM_0 : M o = some ((1, 0), .inr (7, [.ref av, .ref asp, .ref ak, .ref aik, .ref atx, .int le, .ref am, .int mn, .ref aa, .int pl, .ref ato]))) (hM_1 : M av = some ((1, 1), .inl (gcs G 0, 1310, .inl f))) : Met l yX8_errors (ws_ yX8_errors cX8_errors 3 (some .int)) ({ frames := 2, cells := 0, slots := 0, locals := 42 }) (gPc G [.ref o, .int (nI k), .int (nI kd)] M) (gQi G (fun r9 M9 k9 => r9 = (f (256 * k + kd + 5)) ∧ M9 = M ∧ k9 = 0)) 0 0 (gA G) := by
  refine gMet [(0, .ref o), (1, .int (nI k)), (2, .int (nI kd))] (by decide) (Nat.le_of_ble_eq_true rfl) rfl ?_
  intro p e s m below meth c hC
  refine g_iload_n hC dX8_errors_0 1 rfl 1 rfl ?_
  refine g_calliP (g_S (As := [.int (nI k)]) (rest := []) hC msX8_isNode q3023 (met_T_isNode l G M (nI k)) ⟨rfl, rfl⟩ ⟨(Nat.le_of_ble_eq_true rfl), (Nat.le_of_ble_eq_true rfl)⟩ rfl (Nat.le_of_ble_eq_true rfl) dX8_errors_1 rfl ⟨(Nat.le_of_ble_eq_true rfl), (Nat.le_of_ble_eq_true rfl)⟩) 4 rfl 0 (Nat.le_of_ble_eq_true rfl) ?_
  refine g_if_ne hC dX8_errors_4 9 rfl 7 rfl (fun c_1 => ?_) (fun c_1 => ?_)
  · replace c_1 := bId_1 c_1
    refine g_iload_n hC dX8_errors_9 2 rfl 10 rfl ?_
    refine g_iconst hC dX8_errors_10 ki_1 11 rfl ?_
    refine g_iconst hC dX8_errors_11 ki_5 12 rfl ?_
    refine g_calliP (g_S (As := [.int (nI kd), .int 1, .int 5]) (rest := []) hC msX8_in q2984 (met_T_in l G M (nI kd) 1 5) ⟨rfl, rfl⟩ ⟨(Nat.le_of_ble_eq_true rfl), (Nat.le_of_ble_eq_true rfl)⟩ rfl (Nat.le_of_ble_eq_true rfl) dX8_errors_12 rfl ⟨(Nat.le_of_ble_eq_true rfl), (Nat.le_of_ble_eq_true rfl)⟩) 15 rfl 0 (Nat.le_of_ble_eq_true rfl) ?_
    refine g_if_eq hC dX8_errors_15 33 rfl 18 rfl (fun c_2 => ?_) (fun c_2 => ?_)
    · replace c_2 := bId_0 c_2
      exact absurd (show 1 ≤ nI kd ∧ nI kd ≤ 5 from ⟨nI_le (a := 1) h1 (by omega), nI_le (b := 5) h5 (by omega)⟩) c_2
    · replace c_2 := bId_1 c_2
      refine g_aload_n hC dX8_errors_18 0 rfl gRef_r 19 rfl ?_
      refine g_get (v := .ref av) hC cI7 hM_0 0 (Nat.le_of_ble_eq_true rfl) q2942 rfl dX8_errors_19 22 rfl ?_
      refine g_iload_n hC dX8_errors_22 1 rfl 23 rfl ?_
      refine g_iconst hC dX8_errors_23 ki_5 24 rfl ?_
      refine g_iload_n hC dX8_errors_24 2 rfl 25 rfl ?_
      refine g_iadd hC dX8_errors_25 26 rfl ?_
      refine g_topi (y := nI (kd + 5)) (nI_a (a := 5) (b := kd) (c := (kd + 5)) (by omega)) ?_
      refine g_calliP (g_S (As := [.int (nI k), .int (nI (kd + 5))]) (rest := [.ref av]) hC msX8_at q2939 (met_T_at l G M k (kd + 5)) ⟨rfl, rfl⟩ ⟨(Nat.le_of_ble_eq_true rfl), (Nat.le_of_ble_eq_true rfl)⟩ rfl (Nat.le_of_ble_eq_true rfl) dX8_errors_26 rfl ⟨(Nat.le_of_ble_eq_true rfl), (Nat.le_of_ble_eq_true rfl)⟩) 29 rfl 0 (Nat.le_of_ble_eq_true rfl) ?_
      refine g_topi (y := nI (256 * k + kd + 5)) (congrArg nI (show (256 * k + (kd + 5)) = 256 * k + kd + 5 by omega)) ?_
      refine g_iald (v := f (256 * k + kd + 5)) hC hM_1 0 rfl (vp_in_nI (by omega) (by omega)) ((congrArg f (nI_clamp (by omega))).trans rfl) dX8_errors_29 30 rfl ?_
      refine g_goto hC dX8_errors_30 35 rfl ?_
      exact g_iret (v := f (256 * k + kd + 5)) hC (fun k9 hk9 => ⟨rfl, rfl, Nat.le_zero.mp hk9⟩) dX8_errors_35 (Nat.le_of_ble_eq_true rfl) (Nat.le_of_ble_eq_true rfl)
  · replace c_1 := bId_0 c_1
    exact absurd (nk_in hk) c_1
set_option maxHeartbeats 4000000 in
theorem met_T_waitingFrame_n (l : Launch) (G : gG) (M : gM) (o : Nat) (av : Nat) (asp : Nat) (ak : Nat) (aik : Nat) (atx : Nat) (le : Int32) (am : Nat) (mn : Int32) (aa : Nat) (pl : Int32) (ato : Nat) (f : Nat → Int32) (x : Int32) (y : Int32) (hx : ¬ (0 ≤ x ∧ x ≤ 3)) (hM_0 : M o = some ((1, 0), .inr (7, [.ref av, .ref asp, .ref ak, .ref aik, .ref atx, .int le, .ref am, .int mn, .ref aa, .int pl, .ref ato]))) (hM_1 : M av = some ((1, 1), .inl (gcs G 0, 1310, .inl f))) : Met l yX8_waitingFrame (ws_ yX8_waitingFrame cX8_waitingFrame 3 (some .int)) ({ frames := 2, cells := 0, slots := 0, locals := 42 }) (gPc G [.ref o, .int x, .int y] M) (gQi G (fun r9 M9 k9 => r9 = (-1) ∧ M9 = M ∧ k9 = 0)) 0 0 (gA G) := by
  refine gMet [(0, .ref o), (1, .int x), (2, .int y)] (by decide) (Nat.le_of_ble_eq_true rfl) rfl ?_
  intro p e s m below meth c hC
  refine g_iload_n hC dX8_waitingFrame_0 1 rfl 1 rfl ?_
  refine g_calliP (g_S (As := [.int x]) (rest := []) hC msX8_isNode q3023 (met_T_isNode l G M x) ⟨rfl, rfl⟩ ⟨(Nat.le_of_ble_eq_true rfl), (Nat.le_of_ble_eq_true rfl)⟩ rfl (Nat.le_of_ble_eq_true rfl) dX8_waitingFrame_1 rfl ⟨(Nat.le_of_ble_eq_true rfl), (Nat.le_of_ble_eq_true rfl)⟩) 4 rfl 0 (Nat.le_of_ble_eq_true rfl) ?_
  refine g_if_ne hC dX8_waitingFrame_4 9 rfl 7 rfl (fun c_1 => ?_) (fun c_1 => ?_)
  · replace c_1 := bId_1 c_1
    exact absurd c_1 hx
  · replace c_1 := bId_0 c_1
    refine g_iconst hC dX8_waitingFrame_7 ki_m1 8 rfl ?_
    exact g_iret (v := -1) hC (fun k9 hk9 => ⟨rfl, rfl, Nat.le_zero.mp hk9⟩) dX8_waitingFrame_8 (Nat.le_of_ble_eq_true rfl) (Nat.le_of_ble_eq_true rfl)
set_option maxHeartbeats 4000000 in
theorem met_T_waitingFrame_o (l : Launch) (G : gG) (M : gM) (o : Nat) (av : Nat) (asp : Nat) (ak : Nat) (aik : Nat) (atx : Nat) (le : Int32) (am : Nat) (mn : Int32) (aa : Nat) (pl : Int32) (ato : Nat) (f : Nat → Int32) (k : Nat) (y : Int32) (hk : k < 4) (hin : ¬ (0 ≤ y ∧ y ≤ f (256 * k + 23) - 1)) (hM_0 : M o = some ((1, 0), .inr (7, [.ref av, .ref asp, .ref ak, .ref aik, .ref atx, .int le, .ref am, .int mn, .ref aa, .int pl, .ref ato]))) (hM_1 : M av = some ((1, 1), .inl (gcs G 0, 1310, .inl f))) : Met l yX8_waitingFrame (ws_ yX8_waitingFrame cX8_waitingFrame 3 (some .int)) ({ frames := 2, cells := 0, slots := 0, locals := 42 }) (gPc G [.ref o, .int (nI k), .int y] M) (gQi G (fun r9 M9 k9 => r9 = (-5) ∧ M9 = M ∧ k9 = 0)) 0 0 (gA G) := by
  refine gMet [(0, .ref o), (1, .int (nI k)), (2, .int y)] (by decide) (Nat.le_of_ble_eq_true rfl) rfl ?_
  intro p e s m below meth c hC
  refine g_iload_n hC dX8_waitingFrame_0 1 rfl 1 rfl ?_
  refine g_calliP (g_S (As := [.int (nI k)]) (rest := []) hC msX8_isNode q3023 (met_T_isNode l G M (nI k)) ⟨rfl, rfl⟩ ⟨(Nat.le_of_ble_eq_true rfl), (Nat.le_of_ble_eq_true rfl)⟩ rfl (Nat.le_of_ble_eq_true rfl) dX8_waitingFrame_1 rfl ⟨(Nat.le_of_ble_eq_true rfl), (Nat.le_of_ble_eq_true rfl)⟩) 4 rfl 0 (Nat.le_of_ble_eq_true rfl) ?_
  refine g_if_ne hC dX8_waitingFrame_4 9 rfl 7 rfl (fun c_1 => ?_) (fun c_1 => ?_)
  · replace c_1 := bId_1 c_1
    refine g_iload_n hC dX8_waitingFrame_9 2 rfl 10 rfl ?_
    refine g_iconst hC dX8_waitingFrame_10 ki_0 11 rfl ?_
    refine g_aload_n hC dX8_waitingFrame_11 0 rfl gRef_r 12 rfl ?_
    refine g_get (v := .ref av) hC cI7 hM_0 0 (Nat.le_of_ble_eq_true rfl) q2942 rfl dX8_waitingFrame_12 15 rfl ?_
    refine g_iload_n hC dX8_waitingFrame_15 1 rfl 16 rfl ?_
    refine g_bipush hC dX8_waitingFrame_16 kb_23 18 rfl ?_
    refine g_calliP (g_S (As := [.int (nI k), .int 23]) (rest := [.ref av, .int 0, .int y]) hC msX8_at q2939 (met_T_at l G M k 23) ⟨rfl, rfl⟩ ⟨(Nat.le_of_ble_eq_true rfl), (Nat.le_of_ble_eq_true rfl)⟩ rfl (Nat.le_of_ble_eq_true rfl) dX8_waitingFrame_18 rfl ⟨(Nat.le_of_ble_eq_true rfl), (Nat.le_of_ble_eq_true rfl)⟩) 21 rfl 0 (Nat.le_of_ble_eq_true rfl) ?_
    refine g_iald (v := f (256 * k + 23)) hC hM_1 0 rfl (vp_in_nI (by omega) (by omega)) ((congrArg f (nI_clamp (by omega))).trans rfl) dX8_waitingFrame_21 22 rfl ?_
    refine g_iconst hC dX8_waitingFrame_22 ki_1 23 rfl ?_
    refine g_isub hC dX8_waitingFrame_23 24 rfl ?_
    refine g_calliP (g_S (As := [.int y, .int 0, .int ((f (256 * k + 23)) - 1)]) (rest := []) hC msX8_in q2984 (met_T_in l G M y 0 ((f (256 * k + 23)) - 1)) ⟨rfl, rfl⟩ ⟨(Nat.le_of_ble_eq_true rfl), (Nat.le_of_ble_eq_true rfl)⟩ rfl (Nat.le_of_ble_eq_true rfl) dX8_waitingFrame_24 rfl ⟨(Nat.le_of_ble_eq_true rfl), (Nat.le_of_ble_eq_true rfl)⟩) 27 rfl 0 (Nat.le_of_ble_eq_true rfl) ?_
    refine g_if_eq hC dX8_waitingFrame_27 39 rfl 30 rfl (fun c_2 => ?_) (fun c_2 => ?_)
    · replace c_2 := bId_0 c_2
      refine g_bipush hC dX8_waitingFrame_39 kb_m5 41 rfl ?_
      exact g_iret (v := -5) hC (fun k9 hk9 => ⟨rfl, rfl, Nat.le_zero.mp hk9⟩) dX8_waitingFrame_41 (Nat.le_of_ble_eq_true rfl) (Nat.le_of_ble_eq_true rfl)
    · replace c_2 := bId_1 c_2
      exact absurd c_2 hin
  · replace c_1 := bId_0 c_1
    exact absurd (nk_in hk) c_1
set_option maxHeartbeats 4000000 in
theorem met_T_waitingFrame (l : Launch) (G : gG) (M : gM) (o : Nat) (av : Nat) (asp : Nat) (ak : Nat) (aik : Nat) (atx : Nat) (le : Int32) (am : Nat) (mn : Int32) (aa : Nat) (pl : Int32) (ato : Nat) (f : Nat → Int32) (k : Nat) (i : Nat) (hk : k < 4) (hin : 0 ≤ nI i ∧ nI i ≤ f (256 * k + 23) - 1) (hi : i ≤ 3) (hM_0 : M o = some ((1, 0), .inr (7, [.ref av, .ref asp, .ref ak, .ref aik, .ref atx, .int le, .ref am, .int mn, .ref aa, .int pl, .ref ato]))) (hM_1 : M av = some ((1, 1), .inl (gcs G 0, 1310, .inl f))) : Met l yX8_waitingFrame (ws_ yX8_waitingFrame cX8_waitingFrame 3 (some .int)) ({ frames := 2, cells := 0, slots := 0, locals := 44 }) (gPc G [.ref o, .int (nI k), .int (nI i)] M) (gQi G (fun r9 M9 k9 => r9 = (T_key f k i) ∧ M9 = M ∧ k9 = 0)) 0 0 (gA G) := by
  refine gMet [(0, .ref o), (1, .int (nI k)), (2, .int (nI i))] (by decide) (Nat.le_of_ble_eq_true rfl) rfl ?_
  intro p e s m below meth c hC
  refine g_iload_n hC dX8_waitingFrame_0 1 rfl 1 rfl ?_
  refine g_calliP (g_S (As := [.int (nI k)]) (rest := []) hC msX8_isNode q3023 (met_T_isNode l G M (nI k)) ⟨rfl, rfl⟩ ⟨(Nat.le_of_ble_eq_true rfl), (Nat.le_of_ble_eq_true rfl)⟩ rfl (Nat.le_of_ble_eq_true rfl) dX8_waitingFrame_1 rfl ⟨(Nat.le_of_ble_eq_true rfl), (Nat.le_of_ble_eq_true rfl)⟩) 4 rfl 0 (Nat.le_of_ble_eq_true rfl) ?_
  refine g_if_ne hC dX8_waitingFrame_4 9 rfl 7 rfl (fun c_1 => ?_) (fun c_1 => ?_)
  · replace c_1 := bId_1 c_1
    refine g_iload_n hC dX8_waitingFrame_9 2 rfl 10 rfl ?_
    refine g_iconst hC dX8_waitingFrame_10 ki_0 11 rfl ?_
    refine g_aload_n hC dX8_waitingFrame_11 0 rfl gRef_r 12 rfl ?_
    refine g_get (v := .ref av) hC cI7 hM_0 0 (Nat.le_of_ble_eq_true rfl) q2942 rfl dX8_waitingFrame_12 15 rfl ?_
    refine g_iload_n hC dX8_waitingFrame_15 1 rfl 16 rfl ?_
    refine g_bipush hC dX8_waitingFrame_16 kb_23 18 rfl ?_
    refine g_calliP (g_S (As := [.int (nI k), .int 23]) (rest := [.ref av, .int 0, .int (nI i)]) hC msX8_at q2939 (met_T_at l G M k 23) ⟨rfl, rfl⟩ ⟨(Nat.le_of_ble_eq_true rfl), (Nat.le_of_ble_eq_true rfl)⟩ rfl (Nat.le_of_ble_eq_true rfl) dX8_waitingFrame_18 rfl ⟨(Nat.le_of_ble_eq_true rfl), (Nat.le_of_ble_eq_true rfl)⟩) 21 rfl 0 (Nat.le_of_ble_eq_true rfl) ?_
    refine g_iald (v := f (256 * k + 23)) hC hM_1 0 rfl (vp_in_nI (by omega) (by omega)) ((congrArg f (nI_clamp (by omega))).trans rfl) dX8_waitingFrame_21 22 rfl ?_
    refine g_iconst hC dX8_waitingFrame_22 ki_1 23 rfl ?_
    refine g_isub hC dX8_waitingFrame_23 24 rfl ?_
    refine g_calliP (g_S (As := [.int (nI i), .int 0, .int ((f (256 * k + 23)) - 1)]) (rest := []) hC msX8_in q2984 (met_T_in l G M (nI i) 0 ((f (256 * k + 23)) - 1)) ⟨rfl, rfl⟩ ⟨(Nat.le_of_ble_eq_true rfl), (Nat.le_of_ble_eq_true rfl)⟩ rfl (Nat.le_of_ble_eq_true rfl) dX8_waitingFrame_24 rfl ⟨(Nat.le_of_ble_eq_true rfl), (Nat.le_of_ble_eq_true rfl)⟩) 27 rfl 0 (Nat.le_of_ble_eq_true rfl) ?_
    refine g_if_eq hC dX8_waitingFrame_27 39 rfl 30 rfl (fun c_2 => ?_) (fun c_2 => ?_)
    · replace c_2 := bId_0 c_2
      exact absurd hin c_2
    · replace c_2 := bId_1 c_2
      refine g_aload_n hC dX8_waitingFrame_30 0 rfl gRef_r 31 rfl ?_
      refine g_iload_n hC dX8_waitingFrame_31 1 rfl 32 rfl ?_
      refine g_iload_n hC dX8_waitingFrame_32 2 rfl 33 rfl ?_
      refine g_calliP (g_V (As := [.int (nI k), .int (nI i)]) (rest := []) hC mvX8_keyOf q3263 (gOf.of hC.K cI7 hM_0) (met_T_keyOf l G M o av asp ak aik atx le am mn aa pl ato f k i hk hi hM_0 hM_1) ⟨rfl, rfl⟩ ⟨(Nat.le_of_ble_eq_true rfl), (Nat.le_of_ble_eq_true rfl)⟩ rfl (Nat.le_of_ble_eq_true rfl) dX8_waitingFrame_33 rfl ⟨(Nat.le_of_ble_eq_true rfl), (Nat.le_of_ble_eq_true rfl)⟩) 36 rfl 0 (Nat.le_of_ble_eq_true rfl) ?_
      refine g_goto hC dX8_waitingFrame_36 41 rfl ?_
      exact g_iret (v := T_key f k i) hC (fun k9 hk9 => ⟨rfl, rfl, Nat.le_zero.mp hk9⟩) dX8_waitingFrame_41 (Nat.le_of_ble_eq_true rfl) (Nat.le_of_ble_eq_true rfl)
  · replace c_1 := bId_0 c_1
    exact absurd (nk_in hk) c_1
set_option maxHeartbeats 4000000 in
theorem met_T_receivedFrame_n (l : Launch) (G : gG) (M : gM) (o : Nat) (av : Nat) (asp : Nat) (ak : Nat) (aik : Nat) (atx : Nat) (le : Int32) (am : Nat) (mn : Int32) (aa : Nat) (pl : Int32) (ato : Nat) (f : Nat → Int32) (x : Int32) (y : Int32) (hx : ¬ (0 ≤ x ∧ x ≤ 3)) (hM_0 : M o = some ((1, 0), .inr (7, [.ref av, .ref asp, .ref ak, .ref aik, .ref atx, .int le, .ref am, .int mn, .ref aa, .int pl, .ref ato]))) (hM_1 : M av = some ((1, 1), .inl (gcs G 0, 1310, .inl f))) : Met l yX8_receivedFrame (ws_ yX8_receivedFrame cX8_receivedFrame 3 (some .int)) ({ frames := 2, cells := 0, slots := 0, locals := 42 }) (gPc G [.ref o, .int x, .int y] M) (gQi G (fun r9 M9 k9 => r9 = (-1) ∧ M9 = M ∧ k9 = 0)) 0 0 (gA G) := by
  refine gMet [(0, .ref o), (1, .int x), (2, .int y)] (by decide) (Nat.le_of_ble_eq_true rfl) rfl ?_
  intro p e s m below meth c hC
  refine g_iload_n hC dX8_receivedFrame_0 1 rfl 1 rfl ?_
  refine g_calliP (g_S (As := [.int x]) (rest := []) hC msX8_isNode q3023 (met_T_isNode l G M x) ⟨rfl, rfl⟩ ⟨(Nat.le_of_ble_eq_true rfl), (Nat.le_of_ble_eq_true rfl)⟩ rfl (Nat.le_of_ble_eq_true rfl) dX8_receivedFrame_1 rfl ⟨(Nat.le_of_ble_eq_true rfl), (Nat.le_of_ble_eq_true rfl)⟩) 4 rfl 0 (Nat.le_of_ble_eq_true rfl) ?_
  refine g_if_ne hC dX8_receivedFrame_4 9 rfl 7 rfl (fun c_1 => ?_) (fun c_1 => ?_)
  · replace c_1 := bId_1 c_1
    exact absurd c_1 hx
  · replace c_1 := bId_0 c_1
    refine g_iconst hC dX8_receivedFrame_7 ki_m1 8 rfl ?_
    exact g_iret (v := -1) hC (fun k9 hk9 => ⟨rfl, rfl, Nat.le_zero.mp hk9⟩) dX8_receivedFrame_8 (Nat.le_of_ble_eq_true rfl) (Nat.le_of_ble_eq_true rfl)
set_option maxHeartbeats 4000000 in
theorem met_T_receivedFrame_o (l : Launch) (G : gG) (M : gM) (o : Nat) (av : Nat) (asp : Nat) (ak : Nat) (aik : Nat) (atx : Nat) (le : Int32) (am : Nat) (mn : Int32) (aa : Nat) (pl : Int32) (ato : Nat) (f : Nat → Int32) (k : Nat) (y : Int32) (hk : k < 4) (hin : ¬ (0 ≤ y ∧ y ≤ f (256 * k + 24) - 1)) (hM_0 : M o = some ((1, 0), .inr (7, [.ref av, .ref asp, .ref ak, .ref aik, .ref atx, .int le, .ref am, .int mn, .ref aa, .int pl, .ref ato]))) (hM_1 : M av = some ((1, 1), .inl (gcs G 0, 1310, .inl f))) : Met l yX8_receivedFrame (ws_ yX8_receivedFrame cX8_receivedFrame 3 (some .int)) ({ frames := 2, cells := 0, slots := 0, locals := 44 }) (gPc G [.ref o, .int (nI k), .int y] M) (gQi G (fun r9 M9 k9 => r9 = (-5) ∧ M9 = M ∧ k9 = 0)) 0 0 (gA G) := by
  refine gMet [(0, .ref o), (1, .int (nI k)), (2, .int y)] (by decide) (Nat.le_of_ble_eq_true rfl) rfl ?_
  intro p e s m below meth c hC
  refine g_iload_n hC dX8_receivedFrame_0 1 rfl 1 rfl ?_
  refine g_calliP (g_S (As := [.int (nI k)]) (rest := []) hC msX8_isNode q3023 (met_T_isNode l G M (nI k)) ⟨rfl, rfl⟩ ⟨(Nat.le_of_ble_eq_true rfl), (Nat.le_of_ble_eq_true rfl)⟩ rfl (Nat.le_of_ble_eq_true rfl) dX8_receivedFrame_1 rfl ⟨(Nat.le_of_ble_eq_true rfl), (Nat.le_of_ble_eq_true rfl)⟩) 4 rfl 0 (Nat.le_of_ble_eq_true rfl) ?_
  refine g_if_ne hC dX8_receivedFrame_4 9 rfl 7 rfl (fun c_1 => ?_) (fun c_1 => ?_)
  · replace c_1 := bId_1 c_1
    refine g_aload_n hC dX8_receivedFrame_9 0 rfl gRef_r 10 rfl ?_
    refine g_iload_n hC dX8_receivedFrame_10 1 rfl 11 rfl ?_
    refine g_iload_n hC dX8_receivedFrame_11 2 rfl 12 rfl ?_
    refine g_calliP (g_V (As := [.int (nI k), .int y]) (rest := []) hC mvX8_isGot q3275 (gOf.of hC.K cI7 hM_0) (met_T_isGot l G M o av asp ak aik atx le am mn aa pl ato f k y hk hM_0 hM_1) ⟨rfl, rfl⟩ ⟨(Nat.le_of_ble_eq_true rfl), (Nat.le_of_ble_eq_true rfl)⟩ rfl (Nat.le_of_ble_eq_true rfl) dX8_receivedFrame_12 rfl ⟨(Nat.le_of_ble_eq_true rfl), (Nat.le_of_ble_eq_true rfl)⟩) 15 rfl 0 (Nat.le_of_ble_eq_true rfl) ?_
    refine g_if_eq hC dX8_receivedFrame_15 27 rfl 18 rfl (fun c_2 => ?_) (fun c_2 => ?_)
    · replace c_2 := bId_0 c_2
      refine g_bipush hC dX8_receivedFrame_27 kb_m5 29 rfl ?_
      exact g_iret (v := -5) hC (fun k9 hk9 => ⟨rfl, rfl, Nat.le_zero.mp hk9⟩) dX8_receivedFrame_29 (Nat.le_of_ble_eq_true rfl) (Nat.le_of_ble_eq_true rfl)
    · replace c_2 := bId_1 c_2
      exact absurd c_2 hin
  · replace c_1 := bId_0 c_1
    exact absurd (nk_in hk) c_1
set_option maxHeartbeats 4000000 in
theorem met_T_receivedFrame (l : Launch) (G : gG) (M : gM) (o : Nat) (av : Nat) (asp : Nat) (ak : Nat) (aik : Nat) (atx : Nat) (le : Int32) (am : Nat) (mn : Int32) (aa : Nat) (pl : Int32) (ato : Nat) (f : Nat → Int32) (k : Nat) (i : Nat) (hk : k < 4) (hin : 0 ≤ nI i ∧ nI i ≤ f (256 * k + 24) - 1) (hi : i ≤ 5) (hM_0 : M o = some ((1, 0), .inr (7, [.ref av, .ref asp, .ref ak, .ref aik, .ref atx, .int le, .ref am, .int mn, .ref aa, .int pl, .ref ato]))) (hM_1 : M av = some ((1, 1), .inl (gcs G 0, 1310, .inl f))) : Met l yX8_receivedFrame (ws_ yX8_receivedFrame cX8_receivedFrame 3 (some .int)) ({ frames := 2, cells := 0, slots := 0, locals := 44 }) (gPc G [.ref o, .int (nI k), .int (nI i)] M) (gQi G (fun r9 M9 k9 => r9 = (T_gkey f k i) ∧ M9 = M ∧ k9 = 0)) 0 0 (gA G) := by
  refine gMet [(0, .ref o), (1, .int (nI k)), (2, .int (nI i))] (by decide) (Nat.le_of_ble_eq_true rfl) rfl ?_
  intro p e s m below meth c hC
  refine g_iload_n hC dX8_receivedFrame_0 1 rfl 1 rfl ?_
  refine g_calliP (g_S (As := [.int (nI k)]) (rest := []) hC msX8_isNode q3023 (met_T_isNode l G M (nI k)) ⟨rfl, rfl⟩ ⟨(Nat.le_of_ble_eq_true rfl), (Nat.le_of_ble_eq_true rfl)⟩ rfl (Nat.le_of_ble_eq_true rfl) dX8_receivedFrame_1 rfl ⟨(Nat.le_of_ble_eq_true rfl), (Nat.le_of_ble_eq_true rfl)⟩) 4 rfl 0 (Nat.le_of_ble_eq_true rfl) ?_
  refine g_if_ne hC dX8_receivedFrame_4 9 rfl 7 rfl (fun c_1 => ?_) (fun c_1 => ?_)
  · replace c_1 := bId_1 c_1
    refine g_aload_n hC dX8_receivedFrame_9 0 rfl gRef_r 10 rfl ?_
    refine g_iload_n hC dX8_receivedFrame_10 1 rfl 11 rfl ?_
    refine g_iload_n hC dX8_receivedFrame_11 2 rfl 12 rfl ?_
    refine g_calliP (g_V (As := [.int (nI k), .int (nI i)]) (rest := []) hC mvX8_isGot q3275 (gOf.of hC.K cI7 hM_0) (met_T_isGot l G M o av asp ak aik atx le am mn aa pl ato f k (nI i) hk hM_0 hM_1) ⟨rfl, rfl⟩ ⟨(Nat.le_of_ble_eq_true rfl), (Nat.le_of_ble_eq_true rfl)⟩ rfl (Nat.le_of_ble_eq_true rfl) dX8_receivedFrame_12 rfl ⟨(Nat.le_of_ble_eq_true rfl), (Nat.le_of_ble_eq_true rfl)⟩) 15 rfl 0 (Nat.le_of_ble_eq_true rfl) ?_
    refine g_if_eq hC dX8_receivedFrame_15 27 rfl 18 rfl (fun c_2 => ?_) (fun c_2 => ?_)
    · replace c_2 := bId_0 c_2
      exact absurd hin c_2
    · replace c_2 := bId_1 c_2
      refine g_aload_n hC dX8_receivedFrame_18 0 rfl gRef_r 19 rfl ?_
      refine g_iload_n hC dX8_receivedFrame_19 1 rfl 20 rfl ?_
      refine g_iload_n hC dX8_receivedFrame_20 2 rfl 21 rfl ?_
      refine g_calliP (g_V (As := [.int (nI k), .int (nI i)]) (rest := []) hC mvX8_gotKey q3279 (gOf.of hC.K cI7 hM_0) (met_T_gotKey l G M o av asp ak aik atx le am mn aa pl ato f k i hk hi hM_0 hM_1) ⟨rfl, rfl⟩ ⟨(Nat.le_of_ble_eq_true rfl), (Nat.le_of_ble_eq_true rfl)⟩ rfl (Nat.le_of_ble_eq_true rfl) dX8_receivedFrame_21 rfl ⟨(Nat.le_of_ble_eq_true rfl), (Nat.le_of_ble_eq_true rfl)⟩) 24 rfl 0 (Nat.le_of_ble_eq_true rfl) ?_
      refine g_goto hC dX8_receivedFrame_24 29 rfl ?_
      exact g_iret (v := T_gkey f k i) hC (fun k9 hk9 => ⟨rfl, rfl, Nat.le_zero.mp hk9⟩) dX8_receivedFrame_29 (Nat.le_of_ble_eq_true rfl) (Nat.le_of_ble_eq_true rfl)
  · replace c_1 := bId_0 c_1
    exact absurd (nk_in hk) c_1
set_option maxHeartbeats 4000000 in
theorem met_T_receivedLength_n (l : Launch) (G : gG) (M : gM) (o : Nat) (av : Nat) (asp : Nat) (ak : Nat) (aik : Nat) (atx : Nat) (le : Int32) (am : Nat) (mn : Int32) (aa : Nat) (pl : Int32) (ato : Nat) (f : Nat → Int32) (x : Int32) (y : Int32) (hx : ¬ (0 ≤ x ∧ x ≤ 3)) (hM_0 : M o = some ((1, 0), .inr (7, [.ref av, .ref asp, .ref ak, .ref aik, .ref atx, .int le, .ref am, .int mn, .ref aa, .int pl, .ref ato]))) (hM_1 : M av = some ((1, 1), .inl (gcs G 0, 1310, .inl f))) : Met l yX8_receivedLength (ws_ yX8_receivedLength cX8_receivedLength 3 (some .int)) ({ frames := 2, cells := 0, slots := 0, locals := 42 }) (gPc G [.ref o, .int x, .int y] M) (gQi G (fun r9 M9 k9 => r9 = (-1) ∧ M9 = M ∧ k9 = 0)) 0 0 (gA G) := by
  refine gMet [(0, .ref o), (1, .int x), (2, .int y)] (by decide) (Nat.le_of_ble_eq_true rfl) rfl ?_
  intro p e s m below meth c hC
  refine g_iload_n hC dX8_receivedLength_0 1 rfl 1 rfl ?_
  refine g_calliP (g_S (As := [.int x]) (rest := []) hC msX8_isNode q3023 (met_T_isNode l G M x) ⟨rfl, rfl⟩ ⟨(Nat.le_of_ble_eq_true rfl), (Nat.le_of_ble_eq_true rfl)⟩ rfl (Nat.le_of_ble_eq_true rfl) dX8_receivedLength_1 rfl ⟨(Nat.le_of_ble_eq_true rfl), (Nat.le_of_ble_eq_true rfl)⟩) 4 rfl 0 (Nat.le_of_ble_eq_true rfl) ?_
  refine g_if_ne hC dX8_receivedLength_4 9 rfl 7 rfl (fun c_1 => ?_) (fun c_1 => ?_)
  · replace c_1 := bId_1 c_1
    exact absurd c_1 hx
  · replace c_1 := bId_0 c_1
    refine g_iconst hC dX8_receivedLength_7 ki_m1 8 rfl ?_
    exact g_iret (v := -1) hC (fun k9 hk9 => ⟨rfl, rfl, Nat.le_zero.mp hk9⟩) dX8_receivedLength_8 (Nat.le_of_ble_eq_true rfl) (Nat.le_of_ble_eq_true rfl)
set_option maxHeartbeats 4000000 in
theorem met_T_receivedLength_o (l : Launch) (G : gG) (M : gM) (o : Nat) (av : Nat) (asp : Nat) (ak : Nat) (aik : Nat) (atx : Nat) (le : Int32) (am : Nat) (mn : Int32) (aa : Nat) (pl : Int32) (ato : Nat) (f : Nat → Int32) (k : Nat) (y : Int32) (hk : k < 4) (hin : ¬ (0 ≤ y ∧ y ≤ f (256 * k + 24) - 1)) (hM_0 : M o = some ((1, 0), .inr (7, [.ref av, .ref asp, .ref ak, .ref aik, .ref atx, .int le, .ref am, .int mn, .ref aa, .int pl, .ref ato]))) (hM_1 : M av = some ((1, 1), .inl (gcs G 0, 1310, .inl f))) : Met l yX8_receivedLength (ws_ yX8_receivedLength cX8_receivedLength 3 (some .int)) ({ frames := 2, cells := 0, slots := 0, locals := 44 }) (gPc G [.ref o, .int (nI k), .int y] M) (gQi G (fun r9 M9 k9 => r9 = (-5) ∧ M9 = M ∧ k9 = 0)) 0 0 (gA G) := by
  refine gMet [(0, .ref o), (1, .int (nI k)), (2, .int y)] (by decide) (Nat.le_of_ble_eq_true rfl) rfl ?_
  intro p e s m below meth c hC
  refine g_iload_n hC dX8_receivedLength_0 1 rfl 1 rfl ?_
  refine g_calliP (g_S (As := [.int (nI k)]) (rest := []) hC msX8_isNode q3023 (met_T_isNode l G M (nI k)) ⟨rfl, rfl⟩ ⟨(Nat.le_of_ble_eq_true rfl), (Nat.le_of_ble_eq_true rfl)⟩ rfl (Nat.le_of_ble_eq_true rfl) dX8_receivedLength_1 rfl ⟨(Nat.le_of_ble_eq_true rfl), (Nat.le_of_ble_eq_true rfl)⟩) 4 rfl 0 (Nat.le_of_ble_eq_true rfl) ?_
  refine g_if_ne hC dX8_receivedLength_4 9 rfl 7 rfl (fun c_1 => ?_) (fun c_1 => ?_)
  · replace c_1 := bId_1 c_1
    refine g_aload_n hC dX8_receivedLength_9 0 rfl gRef_r 10 rfl ?_
    refine g_iload_n hC dX8_receivedLength_10 1 rfl 11 rfl ?_
    refine g_iload_n hC dX8_receivedLength_11 2 rfl 12 rfl ?_
    refine g_calliP (g_V (As := [.int (nI k), .int y]) (rest := []) hC mvX8_isGot q3275 (gOf.of hC.K cI7 hM_0) (met_T_isGot l G M o av asp ak aik atx le am mn aa pl ato f k y hk hM_0 hM_1) ⟨rfl, rfl⟩ ⟨(Nat.le_of_ble_eq_true rfl), (Nat.le_of_ble_eq_true rfl)⟩ rfl (Nat.le_of_ble_eq_true rfl) dX8_receivedLength_12 rfl ⟨(Nat.le_of_ble_eq_true rfl), (Nat.le_of_ble_eq_true rfl)⟩) 15 rfl 0 (Nat.le_of_ble_eq_true rfl) ?_
    refine g_if_eq hC dX8_receivedLength_15 32 rfl 18 rfl (fun c_2 => ?_) (fun c_2 => ?_)
    · replace c_2 := bId_0 c_2
      refine g_bipush hC dX8_receivedLength_32 kb_m5 34 rfl ?_
      exact g_iret (v := -5) hC (fun k9 hk9 => ⟨rfl, rfl, Nat.le_zero.mp hk9⟩) dX8_receivedLength_34 (Nat.le_of_ble_eq_true rfl) (Nat.le_of_ble_eq_true rfl)
    · replace c_2 := bId_1 c_2
      exact absurd c_2 hin
  · replace c_1 := bId_0 c_1
    exact absurd (nk_in hk) c_1
set_option maxHeartbeats 4000000 in
theorem met_T_receivedLength (l : Launch) (G : gG) (M : gM) (o : Nat) (av : Nat) (asp : Nat) (ak : Nat) (aik : Nat) (atx : Nat) (le : Int32) (am : Nat) (mn : Int32) (aa : Nat) (pl : Int32) (ato : Nat) (f : Nat → Int32) (k : Nat) (i : Nat) (hk : k < 4) (hin : 0 ≤ nI i ∧ nI i ≤ f (256 * k + 24) - 1) (hi : i ≤ 5) (hM_0 : M o = some ((1, 0), .inr (7, [.ref av, .ref asp, .ref ak, .ref aik, .ref atx, .int le, .ref am, .int mn, .ref aa, .int pl, .ref ato]))) (hM_1 : M av = some ((1, 1), .inl (gcs G 0, 1310, .inl f))) : Met l yX8_receivedLength (ws_ yX8_receivedLength cX8_receivedLength 3 (some .int)) ({ frames := 2, cells := 0, slots := 0, locals := 44 }) (gPc G [.ref o, .int (nI k), .int (nI i)] M) (gQi G (fun r9 M9 k9 => r9 = (f (256 * k + 4 * i + 52)) ∧ M9 = M ∧ k9 = 0)) 0 0 (gA G) := by
  refine gMet [(0, .ref o), (1, .int (nI k)), (2, .int (nI i))] (by decide) (Nat.le_of_ble_eq_true rfl) rfl ?_
  intro p e s m below meth c hC
  refine g_iload_n hC dX8_receivedLength_0 1 rfl 1 rfl ?_
  refine g_calliP (g_S (As := [.int (nI k)]) (rest := []) hC msX8_isNode q3023 (met_T_isNode l G M (nI k)) ⟨rfl, rfl⟩ ⟨(Nat.le_of_ble_eq_true rfl), (Nat.le_of_ble_eq_true rfl)⟩ rfl (Nat.le_of_ble_eq_true rfl) dX8_receivedLength_1 rfl ⟨(Nat.le_of_ble_eq_true rfl), (Nat.le_of_ble_eq_true rfl)⟩) 4 rfl 0 (Nat.le_of_ble_eq_true rfl) ?_
  refine g_if_ne hC dX8_receivedLength_4 9 rfl 7 rfl (fun c_1 => ?_) (fun c_1 => ?_)
  · replace c_1 := bId_1 c_1
    refine g_aload_n hC dX8_receivedLength_9 0 rfl gRef_r 10 rfl ?_
    refine g_iload_n hC dX8_receivedLength_10 1 rfl 11 rfl ?_
    refine g_iload_n hC dX8_receivedLength_11 2 rfl 12 rfl ?_
    refine g_calliP (g_V (As := [.int (nI k), .int (nI i)]) (rest := []) hC mvX8_isGot q3275 (gOf.of hC.K cI7 hM_0) (met_T_isGot l G M o av asp ak aik atx le am mn aa pl ato f k (nI i) hk hM_0 hM_1) ⟨rfl, rfl⟩ ⟨(Nat.le_of_ble_eq_true rfl), (Nat.le_of_ble_eq_true rfl)⟩ rfl (Nat.le_of_ble_eq_true rfl) dX8_receivedLength_12 rfl ⟨(Nat.le_of_ble_eq_true rfl), (Nat.le_of_ble_eq_true rfl)⟩) 15 rfl 0 (Nat.le_of_ble_eq_true rfl) ?_
    refine g_if_eq hC dX8_receivedLength_15 32 rfl 18 rfl (fun c_2 => ?_) (fun c_2 => ?_)
    · replace c_2 := bId_0 c_2
      exact absurd hin c_2
    · replace c_2 := bId_1 c_2
      refine g_aload_n hC dX8_receivedLength_18 0 rfl gRef_r 19 rfl ?_
      refine g_get (v := .ref av) hC cI7 hM_0 0 (Nat.le_of_ble_eq_true rfl) q2942 rfl dX8_receivedLength_19 22 rfl ?_
      refine g_iload_n hC dX8_receivedLength_22 1 rfl 23 rfl ?_
      refine g_iload_n hC dX8_receivedLength_23 2 rfl 24 rfl ?_
      refine g_iconst hC dX8_receivedLength_24 ki_2 25 rfl ?_
      refine g_calliP (g_S (As := [.int (nI k), .int (nI i), .int 2]) (rest := [.ref av]) hC msX8_got q3168 (met_T_got l G M k i 2) ⟨rfl, rfl⟩ ⟨(Nat.le_of_ble_eq_true rfl), (Nat.le_of_ble_eq_true rfl)⟩ rfl (Nat.le_of_ble_eq_true rfl) dX8_receivedLength_25 rfl ⟨(Nat.le_of_ble_eq_true rfl), (Nat.le_of_ble_eq_true rfl)⟩) 28 rfl 0 (Nat.le_of_ble_eq_true rfl) ?_
      refine g_topi (y := nI (256 * k + 4 * i + 52)) (congrArg nI (show (256 * k + 4 * i + 2 + 50) = 256 * k + 4 * i + 52 by omega)) ?_
      refine g_iald (v := f (256 * k + 4 * i + 52)) hC hM_1 0 rfl (vp_in_nI (by omega) (by omega)) ((congrArg f (nI_clamp (by omega))).trans rfl) dX8_receivedLength_28 29 rfl ?_
      refine g_goto hC dX8_receivedLength_29 34 rfl ?_
      exact g_iret (v := f (256 * k + 4 * i + 52)) hC (fun k9 hk9 => ⟨rfl, rfl, Nat.le_zero.mp hk9⟩) dX8_receivedLength_34 (Nat.le_of_ble_eq_true rfl) (Nat.le_of_ble_eq_true rfl)
  · replace c_1 := bId_0 c_1
    exact absurd (nk_in hk) c_1
set_option maxHeartbeats 4000000 in
theorem met_T_receivedData_n (l : Launch) (G : gG) (M : gM) (o : Nat) (av : Nat) (asp : Nat) (ak : Nat) (aik : Nat) (atx : Nat) (le : Int32) (am : Nat) (mn : Int32) (aa : Nat) (pl : Int32) (ato : Nat) (f : Nat → Int32) (x : Int32) (y : Int32) (hx : ¬ (0 ≤ x ∧ x ≤ 3)) (hM_0 : M o = some ((1, 0), .inr (7, [.ref av, .ref asp, .ref ak, .ref aik, .ref atx, .int le, .ref am, .int mn, .ref aa, .int pl, .ref ato]))) (hM_1 : M av = some ((1, 1), .inl (gcs G 0, 1310, .inl f))) : Met l yX8_receivedData (ws_ yX8_receivedData cX8_receivedData 3 (some .int)) ({ frames := 2, cells := 0, slots := 0, locals := 42 }) (gPc G [.ref o, .int x, .int y] M) (gQi G (fun r9 M9 k9 => r9 = 0 ∧ M9 = M ∧ k9 = 0)) 0 0 (gA G) := by
  refine gMet [(0, .ref o), (1, .int x), (2, .int y)] (by decide) (Nat.le_of_ble_eq_true rfl) rfl ?_
  intro p e s m below meth c hC
  refine g_iload_n hC dX8_receivedData_0 1 rfl 1 rfl ?_
  refine g_calliP (g_S (As := [.int x]) (rest := []) hC msX8_isNode q3023 (met_T_isNode l G M x) ⟨rfl, rfl⟩ ⟨(Nat.le_of_ble_eq_true rfl), (Nat.le_of_ble_eq_true rfl)⟩ rfl (Nat.le_of_ble_eq_true rfl) dX8_receivedData_1 rfl ⟨(Nat.le_of_ble_eq_true rfl), (Nat.le_of_ble_eq_true rfl)⟩) 4 rfl 0 (Nat.le_of_ble_eq_true rfl) ?_
  refine g_if_eq hC dX8_receivedData_4 30 rfl 7 rfl (fun c_1 => ?_) (fun c_1 => ?_)
  · replace c_1 := bId_0 c_1
    refine g_iconst hC dX8_receivedData_30 ki_0 31 rfl ?_
    exact g_iret (v := 0) hC (fun k9 hk9 => ⟨rfl, rfl, Nat.le_zero.mp hk9⟩) dX8_receivedData_31 (Nat.le_of_ble_eq_true rfl) (Nat.le_of_ble_eq_true rfl)
  · replace c_1 := bId_1 c_1
    exact absurd c_1 hx
set_option maxHeartbeats 4000000 in
theorem met_T_receivedData_o (l : Launch) (G : gG) (M : gM) (o : Nat) (av : Nat) (asp : Nat) (ak : Nat) (aik : Nat) (atx : Nat) (le : Int32) (am : Nat) (mn : Int32) (aa : Nat) (pl : Int32) (ato : Nat) (f : Nat → Int32) (k : Nat) (y : Int32) (hk : k < 4) (hin : ¬ (0 ≤ y ∧ y ≤ f (256 * k + 24) - 1)) (hM_0 : M o = some ((1, 0), .inr (7, [.ref av, .ref asp, .ref ak, .ref aik, .ref atx, .int le, .ref am, .int mn, .ref aa, .int pl, .ref ato]))) (hM_1 : M av = some ((1, 1), .inl (gcs G 0, 1310, .inl f))) : Met l yX8_receivedData (ws_ yX8_receivedData cX8_receivedData 3 (some .int)) ({ frames := 2, cells := 0, slots := 0, locals := 44 }) (gPc G [.ref o, .int (nI k), .int y] M) (gQi G (fun r9 M9 k9 => r9 = 0 ∧ M9 = M ∧ k9 = 0)) 0 0 (gA G) := by
  refine gMet [(0, .ref o), (1, .int (nI k)), (2, .int y)] (by decide) (Nat.le_of_ble_eq_true rfl) rfl ?_
  intro p e s m below meth c hC
  refine g_iload_n hC dX8_receivedData_0 1 rfl 1 rfl ?_
  refine g_calliP (g_S (As := [.int (nI k)]) (rest := []) hC msX8_isNode q3023 (met_T_isNode l G M (nI k)) ⟨rfl, rfl⟩ ⟨(Nat.le_of_ble_eq_true rfl), (Nat.le_of_ble_eq_true rfl)⟩ rfl (Nat.le_of_ble_eq_true rfl) dX8_receivedData_1 rfl ⟨(Nat.le_of_ble_eq_true rfl), (Nat.le_of_ble_eq_true rfl)⟩) 4 rfl 0 (Nat.le_of_ble_eq_true rfl) ?_
  refine g_if_eq hC dX8_receivedData_4 30 rfl 7 rfl (fun c_1 => ?_) (fun c_1 => ?_)
  · replace c_1 := bId_0 c_1
    exact absurd (nk_in hk) c_1
  · replace c_1 := bId_1 c_1
    refine g_aload_n hC dX8_receivedData_7 0 rfl gRef_r 8 rfl ?_
    refine g_iload_n hC dX8_receivedData_8 1 rfl 9 rfl ?_
    refine g_iload_n hC dX8_receivedData_9 2 rfl 10 rfl ?_
    refine g_calliP (g_V (As := [.int (nI k), .int y]) (rest := []) hC mvX8_isGot q3275 (gOf.of hC.K cI7 hM_0) (met_T_isGot l G M o av asp ak aik atx le am mn aa pl ato f k y hk hM_0 hM_1) ⟨rfl, rfl⟩ ⟨(Nat.le_of_ble_eq_true rfl), (Nat.le_of_ble_eq_true rfl)⟩ rfl (Nat.le_of_ble_eq_true rfl) dX8_receivedData_10 rfl ⟨(Nat.le_of_ble_eq_true rfl), (Nat.le_of_ble_eq_true rfl)⟩) 13 rfl 0 (Nat.le_of_ble_eq_true rfl) ?_
    refine g_if_eq hC dX8_receivedData_13 30 rfl 16 rfl (fun c_2 => ?_) (fun c_2 => ?_)
    · replace c_2 := bId_0 c_2
      refine g_iconst hC dX8_receivedData_30 ki_0 31 rfl ?_
      exact g_iret (v := 0) hC (fun k9 hk9 => ⟨rfl, rfl, Nat.le_zero.mp hk9⟩) dX8_receivedData_31 (Nat.le_of_ble_eq_true rfl) (Nat.le_of_ble_eq_true rfl)
    · replace c_2 := bId_1 c_2
      exact absurd c_2 hin
set_option maxHeartbeats 4000000 in
theorem met_T_receivedData (l : Launch) (G : gG) (M : gM) (o : Nat) (av : Nat) (asp : Nat) (ak : Nat) (aik : Nat) (atx : Nat) (le : Int32) (am : Nat) (mn : Int32) (aa : Nat) (pl : Int32) (ato : Nat) (f : Nat → Int32) (k : Nat) (i : Nat) (hk : k < 4) (hin : 0 ≤ nI i ∧ nI i ≤ f (256 * k + 24) - 1) (hi : i ≤ 5) (hM_0 : M o = some ((1, 0), .inr (7, [.ref av, .ref asp, .ref ak, .ref aik, .ref atx, .int le, .ref am, .int mn, .ref aa, .int pl, .ref ato]))) (hM_1 : M av = some ((1, 1), .inl (gcs G 0, 1310, .inl f))) : Met l yX8_receivedData (ws_ yX8_receivedData cX8_receivedData 3 (some .int)) ({ frames := 2, cells := 0, slots := 0, locals := 44 }) (gPc G [.ref o, .int (nI k), .int (nI i)] M) (gQi G (fun r9 M9 k9 => r9 = (f (256 * k + 4 * i + 53)) ∧ M9 = M ∧ k9 = 0)) 0 0 (gA G) := by
  refine gMet [(0, .ref o), (1, .int (nI k)), (2, .int (nI i))] (by decide) (Nat.le_of_ble_eq_true rfl) rfl ?_
  intro p e s m below meth c hC
  refine g_iload_n hC dX8_receivedData_0 1 rfl 1 rfl ?_
  refine g_calliP (g_S (As := [.int (nI k)]) (rest := []) hC msX8_isNode q3023 (met_T_isNode l G M (nI k)) ⟨rfl, rfl⟩ ⟨(Nat.le_of_ble_eq_true rfl), (Nat.le_of_ble_eq_true rfl)⟩ rfl (Nat.le_of_ble_eq_true rfl) dX8_receivedData_1 rfl ⟨(Nat.le_of_ble_eq_true rfl), (Nat.le_of_ble_eq_true rfl)⟩) 4 rfl 0 (Nat.le_of_ble_eq_true rfl) ?_
  refine g_if_eq hC dX8_receivedData_4 30 rfl 7 rfl (fun c_1 => ?_) (fun c_1 => ?_)
  · replace c_1 := bId_0 c_1
    exact absurd (nk_in hk) c_1
  · replace c_1 := bId_1 c_1
    refine g_aload_n hC dX8_receivedData_7 0 rfl gRef_r 8 rfl ?_
    refine g_iload_n hC dX8_receivedData_8 1 rfl 9 rfl ?_
    refine g_iload_n hC dX8_receivedData_9 2 rfl 10 rfl ?_
    refine g_calliP (g_V (As := [.int (nI k), .int (nI i)]) (rest := []) hC mvX8_isGot q3275 (gOf.of hC.K cI7 hM_0) (met_T_isGot l G M o av asp ak aik atx le am mn aa pl ato f k (nI i) hk hM_0 hM_1) ⟨rfl, rfl⟩ ⟨(Nat.le_of_ble_eq_true rfl), (Nat.le_of_ble_eq_true rfl)⟩ rfl (Nat.le_of_ble_eq_true rfl) dX8_receivedData_10 rfl ⟨(Nat.le_of_ble_eq_true rfl), (Nat.le_of_ble_eq_true rfl)⟩) 13 rfl 0 (Nat.le_of_ble_eq_true rfl) ?_
    refine g_if_eq hC dX8_receivedData_13 30 rfl 16 rfl (fun c_2 => ?_) (fun c_2 => ?_)
    · replace c_2 := bId_0 c_2
      exact absurd hin c_2
    · replace c_2 := bId_1 c_2
      refine g_aload_n hC dX8_receivedData_16 0 rfl gRef_r 17 rfl ?_
      refine g_get (v := .ref av) hC cI7 hM_0 0 (Nat.le_of_ble_eq_true rfl) q2942 rfl dX8_receivedData_17 20 rfl ?_
      refine g_iload_n hC dX8_receivedData_20 1 rfl 21 rfl ?_
      refine g_iload_n hC dX8_receivedData_21 2 rfl 22 rfl ?_
      refine g_iconst hC dX8_receivedData_22 ki_3 23 rfl ?_
      refine g_calliP (g_S (As := [.int (nI k), .int (nI i), .int 3]) (rest := [.ref av]) hC msX8_got q3168 (met_T_got l G M k i 3) ⟨rfl, rfl⟩ ⟨(Nat.le_of_ble_eq_true rfl), (Nat.le_of_ble_eq_true rfl)⟩ rfl (Nat.le_of_ble_eq_true rfl) dX8_receivedData_23 rfl ⟨(Nat.le_of_ble_eq_true rfl), (Nat.le_of_ble_eq_true rfl)⟩) 26 rfl 0 (Nat.le_of_ble_eq_true rfl) ?_
      refine g_topi (y := nI (256 * k + 4 * i + 53)) (congrArg nI (show (256 * k + 4 * i + 3 + 50) = 256 * k + 4 * i + 53 by omega)) ?_
      refine g_iald (v := f (256 * k + 4 * i + 53)) hC hM_1 0 rfl (vp_in_nI (by omega) (by omega)) ((congrArg f (nI_clamp (by omega))).trans rfl) dX8_receivedData_26 27 rfl ?_
      refine g_goto hC dX8_receivedData_27 31 rfl ?_
      exact g_iret (v := f (256 * k + 4 * i + 53)) hC (fun k9 hk9 => ⟨rfl, rfl, Nat.le_zero.mp hk9⟩) dX8_receivedData_31 (Nat.le_of_ble_eq_true rfl) (Nat.le_of_ble_eq_true rfl)
def T_disc (f : Nat → Int32) (k n1 : Nat) : Nat → Int32 := cpT (upd f (256 * k + 24) (nI n1)) 4 (256 * k + 50) (4 * n1)
set_option maxHeartbeats 4000000 in
theorem met_T_discard_n (l : Launch) (G : gG) (M : gM) (o : Nat) (av : Nat) (asp : Nat) (ak : Nat) (aik : Nat) (atx : Nat) (le : Int32) (am : Nat) (mn : Int32) (aa : Nat) (pl : Int32) (ato : Nat) (f : Nat → Int32) (x : Int32) (hx : ¬ (0 ≤ x ∧ x ≤ 3)) (hM_0 : M o = some ((1, 0), .inr (7, [.ref av, .ref asp, .ref ak, .ref aik, .ref atx, .int le, .ref am, .int mn, .ref aa, .int pl, .ref ato]))) (hM_1 : M av = some ((1, 1), .inl (gcs G 0, 1310, .inl f))) : Met l yX8_discard (ws_ yX8_discard cX8_discard 3 (some .int)) ({ frames := 2, cells := 0, slots := 0, locals := 42 }) (gPc G [.ref o, .int x] M) (gQi G (fun r9 M9 k9 => r9 = (-1) ∧ M9 = M ∧ k9 = 0)) 0 0 (gA G) := by
  refine gMet [(0, .ref o), (1, .int x)] (by decide) (Nat.le_of_ble_eq_true rfl) rfl ?_
  intro p e s m below meth c hC
  refine g_iload_n hC dX8_discard_0 1 rfl 1 rfl ?_
  refine g_calliP (g_S (As := [.int x]) (rest := []) hC msX8_isNode q3023 (met_T_isNode l G M x) ⟨rfl, rfl⟩ ⟨(Nat.le_of_ble_eq_true rfl), (Nat.le_of_ble_eq_true rfl)⟩ rfl (Nat.le_of_ble_eq_true rfl) dX8_discard_1 rfl ⟨(Nat.le_of_ble_eq_true rfl), (Nat.le_of_ble_eq_true rfl)⟩) 4 rfl 0 (Nat.le_of_ble_eq_true rfl) ?_
  refine g_if_ne hC dX8_discard_4 9 rfl 7 rfl (fun c_1 => ?_) (fun c_1 => ?_)
  · replace c_1 := bId_1 c_1
    exact absurd c_1 hx
  · replace c_1 := bId_0 c_1
    refine g_iconst hC dX8_discard_7 ki_m1 8 rfl ?_
    exact g_iret (v := -1) hC (fun k9 hk9 => ⟨rfl, rfl, Nat.le_zero.mp hk9⟩) dX8_discard_8 (Nat.le_of_ble_eq_true rfl) (Nat.le_of_ble_eq_true rfl)
set_option maxHeartbeats 4000000 in
theorem met_T_discard_0 (l : Launch) (G : gG) (M : gM) (o : Nat) (av : Nat) (asp : Nat) (ak : Nat) (aik : Nat) (atx : Nat) (le : Int32) (am : Nat) (mn : Int32) (aa : Nat) (pl : Int32) (ato : Nat) (f : Nat → Int32) (k : Nat) (hk : k < 4) (h0 : f (256 * k + 24) = 0) (hM_0 : M o = some ((1, 0), .inr (7, [.ref av, .ref asp, .ref ak, .ref aik, .ref atx, .int le, .ref am, .int mn, .ref aa, .int pl, .ref ato]))) (hM_1 : M av = some ((1, 1), .inl (gcs G 0, 1310, .inl f))) : Met l yX8_discard (ws_ yX8_discard cX8_discard 3 (some .int)) ({ frames := 2, cells := 0, slots := 0, locals := 42 }) (gPc G [.ref o, .int (nI k)] M) (gQi G (fun r9 M9 k9 => r9 = (-5) ∧ M9 = M ∧ k9 = 0)) 0 0 (gA G) := by
  refine gMet [(0, .ref o), (1, .int (nI k))] (by decide) (Nat.le_of_ble_eq_true rfl) rfl ?_
  intro p e s m below meth c hC
  refine g_iload_n hC dX8_discard_0 1 rfl 1 rfl ?_
  refine g_calliP (g_S (As := [.int (nI k)]) (rest := []) hC msX8_isNode q3023 (met_T_isNode l G M (nI k)) ⟨rfl, rfl⟩ ⟨(Nat.le_of_ble_eq_true rfl), (Nat.le_of_ble_eq_true rfl)⟩ rfl (Nat.le_of_ble_eq_true rfl) dX8_discard_1 rfl ⟨(Nat.le_of_ble_eq_true rfl), (Nat.le_of_ble_eq_true rfl)⟩) 4 rfl 0 (Nat.le_of_ble_eq_true rfl) ?_
  refine g_if_ne hC dX8_discard_4 9 rfl 7 rfl (fun c_1 => ?_) (fun c_1 => ?_)
  · replace c_1 := bId_1 c_1
    refine g_aload_n hC dX8_discard_9 0 rfl gRef_r 10 rfl ?_
    refine g_get (v := .ref av) hC cI7 hM_0 0 (Nat.le_of_ble_eq_true rfl) q2942 rfl dX8_discard_10 13 rfl ?_
    refine g_iload_n hC dX8_discard_13 1 rfl 14 rfl ?_
    refine g_bipush hC dX8_discard_14 kb_24 16 rfl ?_
    refine g_calliP (g_S (As := [.int (nI k), .int 24]) (rest := [.ref av]) hC msX8_at q2939 (met_T_at l G M k 24) ⟨rfl, rfl⟩ ⟨(Nat.le_of_ble_eq_true rfl), (Nat.le_of_ble_eq_true rfl)⟩ rfl (Nat.le_of_ble_eq_true rfl) dX8_discard_16 rfl ⟨(Nat.le_of_ble_eq_true rfl), (Nat.le_of_ble_eq_true rfl)⟩) 19 rfl 0 (Nat.le_of_ble_eq_true rfl) ?_
    refine g_iald (v := 0) hC hM_1 0 rfl (vp_in_nI (by omega) (by omega)) ((congrArg f (nI_clamp (by omega))).trans h0) dX8_discard_19 20 rfl ?_
    refine g_if_ne hC dX8_discard_20 26 rfl 23 rfl (fun c_2 => ?_) (fun c_2 => ?_)
    · exact absurd c_2 (by decide)
    · refine g_bipush hC dX8_discard_23 kb_m5 25 rfl ?_
      exact g_iret (v := -5) hC (fun k9 hk9 => ⟨rfl, rfl, Nat.le_zero.mp hk9⟩) dX8_discard_25 (Nat.le_of_ble_eq_true rfl) (Nat.le_of_ble_eq_true rfl)
  · replace c_1 := bId_0 c_1
    exact absurd (nk_in hk) c_1
set_option maxHeartbeats 4000000 in
theorem met_T_discard (l : Launch) (G : gG) (M : gM) (o : Nat) (av : Nat) (asp : Nat) (ak : Nat) (aik : Nat) (atx : Nat) (le : Int32) (am : Nat) (mn : Int32) (aa : Nat) (pl : Int32) (ato : Nat) (f : Nat → Int32) (k : Nat) (n1 : Nat) (hk : k < 4) (hnr : f (256 * k + 24) = nI (n1 + 1)) (hn5 : n1 ≤ 5) (hM_0 : M o = some ((1, 0), .inr (7, [.ref av, .ref asp, .ref ak, .ref aik, .ref atx, .int le, .ref am, .int mn, .ref aa, .int pl, .ref ato]))) (hM_1 : M av = some ((1, 1), .inl (gcs G 0, 1310, .inl f))) : Met l yX8_discard (ws_ yX8_discard cX8_discard 3 (some .int)) ({ frames := 2, cells := 0, slots := 0, locals := 42 }) (gPc G [.ref o, .int (nI k)] M) (gQi G (fun r9 M9 k9 => r9 = (nI n1) ∧ M9 av = some ((1, 1), .inl (gcs G 0, 1310, .inl (T_disc f k n1))) ∧ gFr (gL [av]) M M9 ∧ k9 = 0)) 0 0 (gA G) := by
  refine gMet [(0, .ref o), (1, .int (nI k))] (by decide) (Nat.le_of_ble_eq_true rfl) rfl ?_
  intro p e s m below meth c hC
  refine g_iload_n hC dX8_discard_0 1 rfl 1 rfl ?_
  refine g_calliP (g_S (As := [.int (nI k)]) (rest := []) hC msX8_isNode q3023 (met_T_isNode l G M (nI k)) ⟨rfl, rfl⟩ ⟨(Nat.le_of_ble_eq_true rfl), (Nat.le_of_ble_eq_true rfl)⟩ rfl (Nat.le_of_ble_eq_true rfl) dX8_discard_1 rfl ⟨(Nat.le_of_ble_eq_true rfl), (Nat.le_of_ble_eq_true rfl)⟩) 4 rfl 0 (Nat.le_of_ble_eq_true rfl) ?_
  refine g_if_ne hC dX8_discard_4 9 rfl 7 rfl (fun c_1 => ?_) (fun c_1 => ?_)
  · replace c_1 := bId_1 c_1
    refine g_aload_n hC dX8_discard_9 0 rfl gRef_r 10 rfl ?_
    refine g_get (v := .ref av) hC cI7 hM_0 0 (Nat.le_of_ble_eq_true rfl) q2942 rfl dX8_discard_10 13 rfl ?_
    refine g_iload_n hC dX8_discard_13 1 rfl 14 rfl ?_
    refine g_bipush hC dX8_discard_14 kb_24 16 rfl ?_
    refine g_calliP (g_S (As := [.int (nI k), .int 24]) (rest := [.ref av]) hC msX8_at q2939 (met_T_at l G M k 24) ⟨rfl, rfl⟩ ⟨(Nat.le_of_ble_eq_true rfl), (Nat.le_of_ble_eq_true rfl)⟩ rfl (Nat.le_of_ble_eq_true rfl) dX8_discard_16 rfl ⟨(Nat.le_of_ble_eq_true rfl), (Nat.le_of_ble_eq_true rfl)⟩) 19 rfl 0 (Nat.le_of_ble_eq_true rfl) ?_
    refine g_iald (v := nI (n1 + 1)) hC hM_1 0 rfl (vp_in_nI (by omega) (by omega)) ((congrArg f (nI_clamp (by omega))).trans hnr) dX8_discard_19 20 rfl ?_
    refine g_if_ne hC dX8_discard_20 26 rfl 23 rfl (fun c_2 => ?_) (fun c_2 => ?_)
    · replace c_2 : ¬ n1 + 1 = 0 := nn_neq (by omega) (by omega) c_2
      refine g_aload_n hC dX8_discard_26 0 rfl gRef_r 27 rfl ?_
      refine g_get (v := .ref av) hC cI7 hM_0 0 (Nat.le_of_ble_eq_true rfl) q2942 rfl dX8_discard_27 30 rfl ?_
      refine g_iload_n hC dX8_discard_30 1 rfl 31 rfl ?_
      refine g_bipush hC dX8_discard_31 kb_24 33 rfl ?_
      refine g_calliP (g_S (As := [.int (nI k), .int 24]) (rest := [.ref av]) hC msX8_at q2939 (met_T_at l G M k 24) ⟨rfl, rfl⟩ ⟨(Nat.le_of_ble_eq_true rfl), (Nat.le_of_ble_eq_true rfl)⟩ rfl (Nat.le_of_ble_eq_true rfl) dX8_discard_33 rfl ⟨(Nat.le_of_ble_eq_true rfl), (Nat.le_of_ble_eq_true rfl)⟩) 36 rfl 0 (Nat.le_of_ble_eq_true rfl) ?_
      refine g_dup2 hC dX8_discard_36 rfl rfl 37 rfl ?_
      refine g_iald (v := nI (n1 + 1)) hC hM_1 0 rfl (vp_in_nI (by omega) (by omega)) ((congrArg f (nI_clamp (by omega))).trans hnr) dX8_discard_37 38 rfl ?_
      refine g_iconst hC dX8_discard_38 ki_1 39 rfl ?_
      refine g_isub hC dX8_discard_39 40 rfl ?_
      refine g_topi (y := nI n1) (nI_s (a := (n1 + 1)) (b := 1) (c := n1) (by omega)) ?_
      refine g_iast hC hM_1 0 rfl (vp_in_nI (by omega) (by omega)) (256 * k + 24) (nI_clamp (by omega)) dX8_discard_40 41 rfl (fun M3 hU4 => ?_)
      obtain ⟨F5, eF6⟩ : ∃ z9, z9 = upd f (256 * k + 24) (nI n1) := ⟨_, rfl⟩
      rw [← eF6] at hU4
      refine g_iload_n hC dX8_discard_41 1 rfl 42 rfl ?_
      refine g_iconst hC dX8_discard_42 ki_0 43 rfl ?_
      refine g_iconst hC dX8_discard_43 ki_0 44 rfl ?_
      refine g_calliP (g_S (As := [.int (nI k), .int 0, .int 0]) (rest := []) hC msX8_got q3168 (met_T_got l G M3 k 0 0) ⟨rfl, rfl⟩ ⟨(Nat.le_of_ble_eq_true rfl), (Nat.le_of_ble_eq_true rfl)⟩ rfl (Nat.le_of_ble_eq_true rfl) dX8_discard_44 rfl ⟨(Nat.le_of_ble_eq_true rfl), (Nat.le_of_ble_eq_true rfl)⟩) 47 rfl 0 (Nat.le_of_ble_eq_true rfl) ?_
      refine g_topi (y := nI (256 * k + 50)) (congrArg nI (show (256 * k + 4 * 0 + 0 + 50) = 256 * k + 50 by omega)) ?_
      refine g_istore_n hC dX8_discard_47 rfl (Nat.le_of_ble_eq_true rfl) [(2, .int (nI (256 * k + 50))), (0, .ref o), (1, .int (nI k))] rfl 48 rfl ?_
      have loop48 : ∀ (n9 : Nat) (q : Nat) (F : Nat → Int32) (ML : gM), (h1 : 256 * k + 50 ≤ q) → (h2 : q ≤ 256 * k + 4 * n1 + 50) → (h24 : F (256 * k + 24) = nI n1) → (hF : F = cpT (upd f (256 * k + 24) (nI n1)) 4 (256 * k + 50) (q - (256 * k + 50))) → 256 * k + 4 * n1 + 50 - q < n9 → (ML o = some ((1, 0), .inr (7, [.ref av, .ref asp, .ref ak, .ref aik, .ref atx, .int le, .ref am, .int mn, .ref aa, .int pl, .ref ato]))) → (ML av = some ((1, 1), .inl (gcs G 0, 1310, .inl F))) → gFr (gL [av]) M ML → gJ p l e ({ frames := 2, cells := 0, slots := 0, locals := 42 } : Room) s m ([.ref o, .int (nI k)] : List Value).toArray below meth c G 3 (MQ below (gQi G (fun r9 M9 k9 => r9 = (nI n1) ∧ M9 av = some ((1, 1), .inl (gcs G 0, 1310, .inl (T_disc f k n1))) ∧ gFr (gL [av]) M M9 ∧ k9 = 0)) ([.ref o, .int (nI k)] : List Value).toArray s 0 0 (gA G)) 0 0 ML 48 [(0, .ref o), (1, .int (nI k)), (2, .int (nI q))] [] := by
        intro n9
        induction n9 with
        | zero => intro q F ML h1 h2 h24 hF hmu; exact absurd hmu (Nat.not_lt_zero _)
        | succ n9 ih =>
          intro q F ML h1 h2 h24 hF hmu hL_0 hL_1 hLF
          refine g_iload_n hC dX8_discard_48 2 rfl 49 rfl ?_
          refine g_iload_n hC dX8_discard_49 1 rfl 50 rfl ?_
          refine g_aload_n hC dX8_discard_50 0 rfl gRef_r 51 rfl ?_
          refine g_get (v := .ref av) hC cI7 hL_0 0 (Nat.le_of_ble_eq_true rfl) q2942 rfl dX8_discard_51 54 rfl ?_
          refine g_iload_n hC dX8_discard_54 1 rfl 55 rfl ?_
          refine g_bipush hC dX8_discard_55 kb_24 57 rfl ?_
          refine g_calliP (g_S (As := [.int (nI k), .int 24]) (rest := [.ref av, .int (nI k), .int (nI q)]) hC msX8_at q2939 (met_T_at l G ML k 24) ⟨rfl, rfl⟩ ⟨(Nat.le_of_ble_eq_true rfl), (Nat.le_of_ble_eq_true rfl)⟩ rfl (Nat.le_of_ble_eq_true rfl) dX8_discard_57 rfl ⟨(Nat.le_of_ble_eq_true rfl), (Nat.le_of_ble_eq_true rfl)⟩) 60 rfl 0 (Nat.le_of_ble_eq_true rfl) ?_
          refine g_iald (v := nI n1) hC hL_1 0 rfl (vp_in_nI (by omega) (by omega)) ((congrArg F (nI_clamp (by omega))).trans h24) dX8_discard_60 61 rfl ?_
          refine g_iconst hC dX8_discard_61 ki_0 62 rfl ?_
          refine g_calliP (g_S (As := [.int (nI k), .int (nI n1), .int 0]) (rest := [.int (nI q)]) hC msX8_got q3168 (met_T_got l G ML k n1 0) ⟨rfl, rfl⟩ ⟨(Nat.le_of_ble_eq_true rfl), (Nat.le_of_ble_eq_true rfl)⟩ rfl (Nat.le_of_ble_eq_true rfl) dX8_discard_62 rfl ⟨(Nat.le_of_ble_eq_true rfl), (Nat.le_of_ble_eq_true rfl)⟩) 65 rfl 0 (Nat.le_of_ble_eq_true rfl) ?_
          refine g_topi (y := nI (256 * k + 4 * n1 + 50)) (congrArg nI (show (256 * k + 4 * n1 + 0 + 50) = 256 * k + 4 * n1 + 50 by omega)) ?_
          refine g_icmp_ge hC dX8_discard_65 88 rfl 68 rfl (fun c_7 => ?_) (fun c_7 => ?_)
          · replace c_7 : 256 * k + 4 * n1 + 50 ≤ q := nn_le (by omega) (by omega) c_7
            refine g_aload_n hC dX8_discard_88 0 rfl gRef_r 89 rfl ?_
            refine g_get (v := .ref av) hC cI7 hL_0 0 (Nat.le_of_ble_eq_true rfl) q2942 rfl dX8_discard_89 92 rfl ?_
            refine g_iload_n hC dX8_discard_92 1 rfl 93 rfl ?_
            refine g_bipush hC dX8_discard_93 kb_24 95 rfl ?_
            refine g_calliP (g_S (As := [.int (nI k), .int 24]) (rest := [.ref av]) hC msX8_at q2939 (met_T_at l G ML k 24) ⟨rfl, rfl⟩ ⟨(Nat.le_of_ble_eq_true rfl), (Nat.le_of_ble_eq_true rfl)⟩ rfl (Nat.le_of_ble_eq_true rfl) dX8_discard_95 rfl ⟨(Nat.le_of_ble_eq_true rfl), (Nat.le_of_ble_eq_true rfl)⟩) 98 rfl 0 (Nat.le_of_ble_eq_true rfl) ?_
            refine g_iald (v := nI n1) hC hL_1 0 rfl (vp_in_nI (by omega) (by omega)) ((congrArg F (nI_clamp (by omega))).trans h24) dX8_discard_98 99 rfl ?_
            exact g_iret (v := nI n1) hC (fun k9 hk9 => ⟨rfl, (by rw [hL_1, hF, show q - (256 * k + 50) = 4 * n1 by omega]; rfl), hLF, (by first | exact Nat.le_zero.mp hk9 | omega)⟩) dX8_discard_99 (Nat.le_of_ble_eq_true rfl) (Nat.le_of_ble_eq_true rfl)
          · replace c_7 : q < 256 * k + 4 * n1 + 50 := nn_nle (by omega) (by omega) c_7
            refine g_aload_n hC dX8_discard_68 0 rfl gRef_r 69 rfl ?_
            refine g_get (v := .ref av) hC cI7 hL_0 0 (Nat.le_of_ble_eq_true rfl) q2942 rfl dX8_discard_69 72 rfl ?_
            refine g_iload_n hC dX8_discard_72 2 rfl 73 rfl ?_
            refine g_aload_n hC dX8_discard_73 0 rfl gRef_r 74 rfl ?_
            refine g_get (v := .ref av) hC cI7 hL_0 0 (Nat.le_of_ble_eq_true rfl) q2942 rfl dX8_discard_74 77 rfl ?_
            refine g_iload_n hC dX8_discard_77 2 rfl 78 rfl ?_
            refine g_iconst hC dX8_discard_78 ki_4 79 rfl ?_
            refine g_iadd hC dX8_discard_79 80 rfl ?_
            refine g_topi (y := nI (q + 4)) (nI_a (a := q) (b := 4) (c := (q + 4)) (by omega)) ?_
            refine g_iald (v := F (q + 4)) hC hL_1 0 rfl (vp_in_nI (by omega) (by omega)) ((congrArg F (nI_clamp (by omega))).trans rfl) dX8_discard_80 81 rfl ?_
            refine g_iast hC hL_1 0 rfl (vp_in_nI (by omega) (by omega)) q (nI_clamp (by omega)) dX8_discard_81 82 rfl (fun M8 hU9 => ?_)
            obtain ⟨F10, eF11⟩ : ∃ z9, z9 = upd F q (F (q + 4)) := ⟨_, rfl⟩
            rw [← eF11] at hU9
            refine g_iinc hC dX8_discard_82 2 rfl (v := nI (q + 1)) (by rw [ki_1]; exact nI_a (a := q) (b := 1) (c := (q + 1)) (by omega)) (Nat.le_of_ble_eq_true rfl) [(2, .int (nI (q + 1))), (0, .ref o), (1, .int (nI k))] rfl 85 rfl ?_
            refine g_goto hC dX8_discard_85 48 rfl ?_
            refine gJ.sub (M' := M8) [1, 2, 0] rfl ?_
            exact ih (q + 1) F10 M8 (by omega) (by omega) (by rw [eF11, pk_un (by omega)]; exact h24) (by rw [eF11, show q + 1 - (256 * k + 50) = (q - (256 * k + 50)) + 1 by omega]; show _ = upd (cpT _ 4 _ _) _ _; rw [← hF, show 256 * k + 50 + (q - (256 * k + 50)) = q by omega]) (by omega) (hU9.n (gne_oa hL_0 hL_1) hL_0) hU9.1 (hLF.up hU9 hL_1 (by simp))
      refine gJ.sub (M' := M3) [1, 2, 0] rfl ?_
      exact loop48 _ (256 * k + 50) F5 M3 (by omega) (by omega) (by rw [eF6]; exact pk_us) (by rw [Nat.sub_self, eF6]; rfl) (Nat.lt_succ_self _) (hU4.n (gne_oa hM_0 hM_1) hM_0) hU4.1 (gFr.refl.up hU4 hM_1 (by simp))
    · exact absurd (show n1 + 1 = 0 from nn_eq (by omega) (by omega) c_2) (by omega)
  · replace c_1 := bId_0 c_1
    exact absurd (nk_in hk) c_1
def cnT (k : Nat) (id : Int32) : Nat → (Nat → Int32) → Nat → Nat → (Nat → Int32) × Nat
  | 0, F, _, r => (F, r)
  | i + 1, F, nw, r => if F (256 * k + 5 * i + 30) = id ∧ F (256 * k + 5 * i + 34) = 0 then cnT k id i (T_unw F k i (nw - 1)) (nw - 1) (r + 1) else cnT k id i F nw r
theorem T_unw_23 {f : Nat → Int32} {k ix nw : Nat} : T_unw f k ix nw (256 * k + 23) = nI nw := by
  unfold T_unw
  rw [pk_un (by omega)]
  exact pk_us
set_option maxHeartbeats 4000000 in
theorem met_T_cancel_n (l : Launch) (G : gG) (M : gM) (o : Nat) (av : Nat) (asp : Nat) (ak : Nat) (aik : Nat) (atx : Nat) (le : Int32) (am : Nat) (mn : Int32) (aa : Nat) (pl : Int32) (ato : Nat) (f : Nat → Int32) (x : Int32) (id : Int32) (hx : ¬ (0 ≤ x ∧ x ≤ 3)) (hM_0 : M o = some ((1, 0), .inr (7, [.ref av, .ref asp, .ref ak, .ref aik, .ref atx, .int le, .ref am, .int mn, .ref aa, .int pl, .ref ato]))) (hM_1 : M av = some ((1, 1), .inl (gcs G 0, 1310, .inl f))) : Met l yX8_cancel (ws_ yX8_cancel cX8_cancel 5 (some .int)) ({ frames := 2, cells := 0, slots := 0, locals := 42 }) (gPc G [.ref o, .int x, .int id] M) (gQi G (fun r9 M9 k9 => r9 = (-1) ∧ M9 = M ∧ k9 = 0)) 0 0 (gA G) := by
  refine gMet [(0, .ref o), (1, .int x), (2, .int id)] (by decide) (Nat.le_of_ble_eq_true rfl) rfl ?_
  intro p e s m below meth c hC
  refine g_iload_n hC dX8_cancel_0 1 rfl 1 rfl ?_
  refine g_calliP (g_S (As := [.int x]) (rest := []) hC msX8_isNode q3023 (met_T_isNode l G M x) ⟨rfl, rfl⟩ ⟨(Nat.le_of_ble_eq_true rfl), (Nat.le_of_ble_eq_true rfl)⟩ rfl (Nat.le_of_ble_eq_true rfl) dX8_cancel_1 rfl ⟨(Nat.le_of_ble_eq_true rfl), (Nat.le_of_ble_eq_true rfl)⟩) 4 rfl 0 (Nat.le_of_ble_eq_true rfl) ?_
  refine g_if_ne hC dX8_cancel_4 9 rfl 7 rfl (fun c_1 => ?_) (fun c_1 => ?_)
  · replace c_1 := bId_1 c_1
    exact absurd c_1 hx
  · replace c_1 := bId_0 c_1
    refine g_iconst hC dX8_cancel_7 ki_m1 8 rfl ?_
    exact g_iret (v := -1) hC (fun k9 hk9 => ⟨rfl, rfl, Nat.le_zero.mp hk9⟩) dX8_cancel_8 (Nat.le_of_ble_eq_true rfl) (Nat.le_of_ble_eq_true rfl)
theorem nI_m1 {n : Nat} (h : n < 100) (q : ¬ (nI n + (-1) < 0)) : ∃ j, n = j + 1 ∧ nI n + (-1) = nI j := by
  rcases Nat.eq_zero_or_pos n with e | e
  · subst e; exact absurd (by decide) q
  · exact ⟨n - 1, by omega, by rw [show n = (n - 1) + 1 by omega]; exact pk_m1 (n - 1)⟩
theorem nI_m0 {n : Nat} (h : n < 100) (q : nI n + (-1) < 0) : n = 0 := by
  rcases Nat.eq_zero_or_pos n with e | e
  · exact e
  · rw [show n = (n - 1) + 1 by omega, pk_m1] at q
    exact absurd q (nI_pos (by omega))
set_option maxHeartbeats 4000000 in
theorem met_T_cancel (l : Launch) (G : gG) (M : gM) (o : Nat) (av : Nat) (asp : Nat) (ak : Nat) (aik : Nat) (atx : Nat) (le : Int32) (am : Nat) (mn : Int32) (aa : Nat) (pl : Int32) (ato : Nat) (f : Nat → Int32) (k : Nat) (id : Int32) (nw : Nat) (hk : k < 4) (hnw : f (256 * k + 23) = nI nw) (hnw4 : nw ≤ 4) (hM_0 : M o = some ((1, 0), .inr (7, [.ref av, .ref asp, .ref ak, .ref aik, .ref atx, .int le, .ref am, .int mn, .ref aa, .int pl, .ref ato]))) (hM_1 : M av = some ((1, 1), .inl (gcs G 0, 1310, .inl f))) : Met l yX8_cancel (ws_ yX8_cancel cX8_cancel 5 (some .int)) ({ frames := 2, cells := 0, slots := 0, locals := 45 }) (gPc G [.ref o, .int (nI k), .int id] M) (gQi G (fun r9 M9 k9 => r9 = (nI (cnT k id nw f nw 0).2) ∧ M9 av = some ((1, 1), .inl (gcs G 0, 1310, .inl ((cnT k id nw f nw 0).1))) ∧ gFr (gL [av]) M M9 ∧ k9 = 0)) 0 0 (gA G) := by
  refine gMet [(0, .ref o), (1, .int (nI k)), (2, .int id)] (by decide) (Nat.le_of_ble_eq_true rfl) rfl ?_
  intro p e s m below meth c hC
  refine g_iload_n hC dX8_cancel_0 1 rfl 1 rfl ?_
  refine g_calliP (g_S (As := [.int (nI k)]) (rest := []) hC msX8_isNode q3023 (met_T_isNode l G M (nI k)) ⟨rfl, rfl⟩ ⟨(Nat.le_of_ble_eq_true rfl), (Nat.le_of_ble_eq_true rfl)⟩ rfl (Nat.le_of_ble_eq_true rfl) dX8_cancel_1 rfl ⟨(Nat.le_of_ble_eq_true rfl), (Nat.le_of_ble_eq_true rfl)⟩) 4 rfl 0 (Nat.le_of_ble_eq_true rfl) ?_
  refine g_if_ne hC dX8_cancel_4 9 rfl 7 rfl (fun c_1 => ?_) (fun c_1 => ?_)
  · replace c_1 := bId_1 c_1
    refine g_iconst hC dX8_cancel_9 ki_0 10 rfl ?_
    refine g_istore_n hC dX8_cancel_10 rfl (Nat.le_of_ble_eq_true rfl) [(3, .int 0), (0, .ref o), (1, .int (nI k)), (2, .int id)] rfl 11 rfl ?_
    refine g_aload_n hC dX8_cancel_11 1 rfl gRef_r 12 rfl ?_
    refine g_get (v := .ref av) hC cI7 hM_0 0 (Nat.le_of_ble_eq_true rfl) q2942 rfl dX8_cancel_12 15 rfl ?_
    refine g_iload_n hC dX8_cancel_15 2 rfl 16 rfl ?_
    refine g_bipush hC dX8_cancel_16 kb_23 18 rfl ?_
    refine g_calliP (g_S (As := [.int (nI k), .int 23]) (rest := [.ref av]) hC msX8_at q2939 (met_T_at l G M k 23) ⟨rfl, rfl⟩ ⟨(Nat.le_of_ble_eq_true rfl), (Nat.le_of_ble_eq_true rfl)⟩ rfl (Nat.le_of_ble_eq_true rfl) dX8_cancel_18 rfl ⟨(Nat.le_of_ble_eq_true rfl), (Nat.le_of_ble_eq_true rfl)⟩) 21 rfl 0 (Nat.le_of_ble_eq_true rfl) ?_
    refine g_iald (v := nI nw) hC hM_1 0 rfl (vp_in_nI (by omega) (by omega)) ((congrArg f (nI_clamp (by omega))).trans hnw) dX8_cancel_21 22 rfl ?_
    refine g_iconst hC dX8_cancel_22 ki_1 23 rfl ?_
    refine g_isub hC dX8_cancel_23 24 rfl ?_
    refine g_istore hC dX8_cancel_24 (Nat.le_of_ble_eq_true rfl) [(4, .int ((nI nw) - 1)), (3, .int 0), (0, .ref o), (1, .int (nI k)), (2, .int id)] rfl 26 rfl ?_
    have loop26 : ∀ (n9 : Nat) (i : Nat) (w : Nat) (r : Nat) (F : Nat → Int32) (z : Int32) (ML : gM), (hz : z = nI i + (-1)) → (hi : i ≤ w) → (hw4 : w ≤ 4) → (hr4 : r + w = nw) → (h23 : F (256 * k + 23) = nI w) → (hc : cnT k id i F w r = cnT k id nw f nw 0) → i < n9 → (ML o = some ((1, 0), .inr (7, [.ref av, .ref asp, .ref ak, .ref aik, .ref atx, .int le, .ref am, .int mn, .ref aa, .int pl, .ref ato]))) → (ML av = some ((1, 1), .inl (gcs G 0, 1310, .inl F))) → gFr (gL [av]) M ML → gJ p l e ({ frames := 2, cells := 0, slots := 0, locals := 45 } : Room) s m ([.ref o, .int (nI k), .int id] : List Value).toArray below meth c G 5 (MQ below (gQi G (fun r9 M9 k9 => r9 = (nI (cnT k id nw f nw 0).2) ∧ M9 av = some ((1, 1), .inl (gcs G 0, 1310, .inl ((cnT k id nw f nw 0).1))) ∧ gFr (gL [av]) M M9 ∧ k9 = 0)) ([.ref o, .int (nI k), .int id] : List Value).toArray s 0 0 (gA G)) 0 0 ML 26 [(0, .ref o), (1, .int (nI k)), (2, .int id), (3, .int (nI r)), (4, .int z)] [] := by
      intro n9
      induction n9 with
      | zero => intro i w r F z ML hz hi hw4 hr4 h23 hc hmu; exact absurd hmu (Nat.not_lt_zero _)
      | succ n9 ih =>
        intro i w r F z ML hz hi hw4 hr4 h23 hc hmu hL_0 hL_1 hLF
        refine g_iload hC dX8_cancel_26 4 rfl 28 rfl ?_
        refine g_if_lt hC dX8_cancel_28 78 rfl 31 rfl (fun c_2 => ?_) (fun c_2 => ?_)
        · refine g_iload_n hC dX8_cancel_78 3 rfl 79 rfl ?_
          exact g_iret (v := nI r) hC (fun k9 hk9 => ⟨(by have hq : cnT k id nw f nw 0 = (F, r) := (by rw [← hc, nI_m0 (n := i) (by omega) (by rw [← hz]; assumption)]; rfl); rw [hq]), (by have hq : cnT k id nw f nw 0 = (F, r) := (by rw [← hc, nI_m0 (n := i) (by omega) (by rw [← hz]; assumption)]; rfl); rw [hL_1, hq]), hLF, (by first | exact Nat.le_zero.mp hk9 | omega)⟩) dX8_cancel_79 (Nat.le_of_ble_eq_true rfl) (Nat.le_of_ble_eq_true rfl)
        · obtain ⟨i1, ei, ez⟩ := nI_m1 (n := i) (by omega) (by rw [← hz]; exact c_2)
          rw [← hz] at ez
          subst ei
          refine g_lv (lv' := [(0, .ref o), (1, .int (nI k)), (2, .int id), (3, .int (nI r)), (4, .int (nI i1))]) (by rw [ez]) ?_
          refine g_aload_n hC dX8_cancel_31 0 rfl gRef_r 32 rfl ?_
          refine g_get (v := .ref av) hC cI7 hL_0 0 (Nat.le_of_ble_eq_true rfl) q2942 rfl dX8_cancel_32 35 rfl ?_
          refine g_iload_n hC dX8_cancel_35 1 rfl 36 rfl ?_
          refine g_iload hC dX8_cancel_36 4 rfl 38 rfl ?_
          refine g_iconst hC dX8_cancel_38 ki_0 39 rfl ?_
          refine g_calliP (g_S (As := [.int (nI k), .int (nI i1), .int 0]) (rest := [.ref av]) hC msX8_wait q3053 (met_T_wait l G ML k i1 0) ⟨rfl, rfl⟩ ⟨(Nat.le_of_ble_eq_true rfl), (Nat.le_of_ble_eq_true rfl)⟩ rfl (Nat.le_of_ble_eq_true rfl) dX8_cancel_39 rfl ⟨(Nat.le_of_ble_eq_true rfl), (Nat.le_of_ble_eq_true rfl)⟩) 42 rfl 0 (Nat.le_of_ble_eq_true rfl) ?_
          refine g_topi (y := nI (256 * k + 5 * i1 + 30)) (congrArg nI (show (256 * k + 5 * i1 + 0 + 30) = 256 * k + 5 * i1 + 30 by omega)) ?_
          refine g_iald (v := F (256 * k + 5 * i1 + 30)) hC hL_1 0 rfl (vp_in_nI (by omega) (by omega)) ((congrArg F (nI_clamp (by omega))).trans rfl) dX8_cancel_42 43 rfl ?_
          refine g_iload_n hC dX8_cancel_43 2 rfl 44 rfl ?_
          refine g_icmp_ne hC dX8_cancel_44 72 rfl 47 rfl (fun c_3 => ?_) (fun c_3 => ?_)
          · refine g_iinc hC dX8_cancel_72 4 rfl (by rw [ki_m1]) (Nat.le_of_ble_eq_true rfl) [(4, .int (nI i1 + (-1))), (0, .ref o), (1, .int (nI k)), (2, .int id), (3, .int (nI r))] rfl 75 rfl ?_
            refine g_goto hC dX8_cancel_75 26 rfl ?_
            refine gJ.sub (M' := ML) [1, 2, 3, 4, 0] rfl ?_
            exact ih i1 w r F (nI i1 + (-1)) ML rfl (by omega) (by omega) (by omega) h23 (by rw [← hc]; simp only [cnT, eq_true c_1, eq_false c_2, eq_false c_3, eq_true (Int32.not_lt.mp c_2), if_true, if_false, true_and, and_true, false_and, and_false, true_or, or_true, false_or, or_false, not_true_eq_false, not_false_eq_true, reduceIte, decide_true, decide_false, Bool.false_eq_true, Nat.add_sub_cancel]) (by omega) hL_0 hL_1 hLF
          · refine g_aload_n hC dX8_cancel_47 0 rfl gRef_r 48 rfl ?_
            refine g_get (v := .ref av) hC cI7 hL_0 0 (Nat.le_of_ble_eq_true rfl) q2942 rfl dX8_cancel_48 51 rfl ?_
            refine g_iload_n hC dX8_cancel_51 1 rfl 52 rfl ?_
            refine g_iload hC dX8_cancel_52 4 rfl 54 rfl ?_
            refine g_iconst hC dX8_cancel_54 ki_4 55 rfl ?_
            refine g_calliP (g_S (As := [.int (nI k), .int (nI i1), .int 4]) (rest := [.ref av]) hC msX8_wait q3053 (met_T_wait l G ML k i1 4) ⟨rfl, rfl⟩ ⟨(Nat.le_of_ble_eq_true rfl), (Nat.le_of_ble_eq_true rfl)⟩ rfl (Nat.le_of_ble_eq_true rfl) dX8_cancel_55 rfl ⟨(Nat.le_of_ble_eq_true rfl), (Nat.le_of_ble_eq_true rfl)⟩) 58 rfl 0 (Nat.le_of_ble_eq_true rfl) ?_
            refine g_topi (y := nI (256 * k + 5 * i1 + 34)) (congrArg nI (show (256 * k + 5 * i1 + 4 + 30) = 256 * k + 5 * i1 + 34 by omega)) ?_
            refine g_iald (v := F (256 * k + 5 * i1 + 34)) hC hL_1 0 rfl (vp_in_nI (by omega) (by omega)) ((congrArg F (nI_clamp (by omega))).trans rfl) dX8_cancel_58 59 rfl ?_
            refine g_if_ne hC dX8_cancel_59 72 rfl 62 rfl (fun c_4 => ?_) (fun c_4 => ?_)
            · refine g_iinc hC dX8_cancel_72 4 rfl (by rw [ki_m1]) (Nat.le_of_ble_eq_true rfl) [(4, .int (nI i1 + (-1))), (0, .ref o), (1, .int (nI k)), (2, .int id), (3, .int (nI r))] rfl 75 rfl ?_
              refine g_goto hC dX8_cancel_75 26 rfl ?_
              refine gJ.sub (M' := ML) [1, 2, 3, 4, 0] rfl ?_
              exact ih i1 w r F (nI i1 + (-1)) ML rfl (by omega) (by omega) (by omega) h23 (by rw [← hc]; simp only [cnT, eq_true c_1, eq_false c_2, eq_true c_3, eq_false c_4, eq_true (Int32.not_lt.mp c_2), if_true, if_false, true_and, and_true, false_and, and_false, true_or, or_true, false_or, or_false, not_true_eq_false, not_false_eq_true, reduceIte, decide_true, decide_false, Bool.false_eq_true, Nat.add_sub_cancel]) (by omega) hL_0 hL_1 hLF
            · obtain ⟨w1, ew⟩ : ∃ y, w = y + 1 := ⟨w - 1, by omega⟩
              subst ew
              refine g_aload_n hC dX8_cancel_62 0 rfl gRef_r 63 rfl ?_
              refine g_iload_n hC dX8_cancel_63 1 rfl 64 rfl ?_
              refine g_iload hC dX8_cancel_64 4 rfl 66 rfl ?_
              refine g_callv (g_V (As := [.int (nI k), .int (nI i1)]) (rest := []) hC mvX8_unwaits q3076 (gOf.of hC.K cI7 hL_0) (met_T_unwaits l G ML o av asp ak aik atx le am mn aa pl ato F k i1 w1 hk (by first | assumption | decide | omega | simp_all) h23 (by first | assumption | decide | omega | simp_all) hL_0 hL_1) ⟨rfl, rfl⟩ ⟨(Nat.le_of_ble_eq_true rfl), (Nat.le_of_ble_eq_true rfl)⟩ rfl (Nat.le_of_ble_eq_true rfl) dX8_cancel_66 rfl ⟨(Nat.le_of_ble_eq_true rfl), (Nat.le_of_ble_eq_true rfl)⟩) 0 (Nat.le_of_ble_eq_true rfl) 0 (Nat.le_of_ble_eq_true rfl) 69 rfl (fun M5 k6 hp7 => ?_)
              obtain ⟨hc9, hF10, hk11⟩ := hp7
              obtain ⟨F12, eF13⟩ : ∃ z9, z9 = T_unw F k i1 w1 := ⟨_, rfl⟩
              rw [← eF13] at hc9
              refine g_iinc hC dX8_cancel_69 3 rfl (v := nI (r + 1)) (by rw [ki_1]; exact nI_a (a := r) (b := 1) (c := (r + 1)) (by omega)) (Nat.le_of_ble_eq_true rfl) [(3, .int (nI (r + 1))), (0, .ref o), (1, .int (nI k)), (2, .int id), (4, .int (nI i1))] rfl 72 rfl ?_
              refine g_iinc hC dX8_cancel_72 4 rfl (by rw [ki_m1]) (Nat.le_of_ble_eq_true rfl) [(4, .int (nI i1 + (-1))), (3, .int (nI (r + 1))), (0, .ref o), (1, .int (nI k)), (2, .int id)] rfl 75 rfl ?_
              refine g_goto hC dX8_cancel_75 26 rfl ?_
              refine gJ.sub (M' := M5) [2, 3, 4, 1, 0] rfl ?_
              exact ih i1 w1 (r + 1) F12 (nI i1 + (-1)) M5 rfl (by omega) (by omega) (by omega) (by rw [eF13]; exact T_unw_23) (by rw [← hc]; simp only [cnT, eq_true c_1, eq_false c_2, eq_true c_3, eq_true c_4, eq_true (Int32.not_lt.mp c_2), if_true, if_false, true_and, and_true, false_and, and_false, true_or, or_true, false_or, or_false, not_true_eq_false, not_false_eq_true, reduceIte, decide_true, decide_false, Bool.false_eq_true, Nat.add_sub_cancel, ← eF13]) (by omega) (hF10 _ _ _ hL_0 (gno (gne_oa hL_0 hL_1) gno0)) hc9 (hLF.trans (hF10.mono (by intro b t hb; simp at hb ⊢; first | done | (rcases hb with rfl | rfl | rfl | rfl <;> simp) | (simp [hb]; done))))
    refine gJ.sub (M' := M) [2, 3, 4, 1, 0] rfl ?_
    exact loop26 _ nw nw 0 f ((nI nw) - 1) M (by rw [Int32.sub_eq_add_neg]) (by omega) hnw4 (by omega) hnw rfl (Nat.lt_succ_self _) hM_0 hM_1 gFr.refl
  · replace c_1 := bId_0 c_1
    exact absurd (nk_in hk) c_1
abbrev okD (n d : Int32) : Prop := (1 ≤ n ∧ n ≤ 15) ∧ (0 ≤ d ∧ d ≤ 200)
def T_dist (f : Nat → Int32) (no de : Int32) (nd : Nat) : Nat → Int32 := upd (upd (upd f (2 * nd + 1029) (f 1024 + de)) (2 * nd + 1030) no) 1028 (nI (nd + 1))
set_option maxHeartbeats 4000000 in
theorem met_T_disturb (l : Launch) (G : gG) (M : gM) (o : Nat) (av : Nat) (asp : Nat) (ak : Nat) (aik : Nat) (atx : Nat) (le : Int32) (am : Nat) (mn : Int32) (aa : Nat) (pl : Int32) (ato : Nat) (f : Nat → Int32) (no : Int32) (de : Int32) (nd : Nat) (hnd : f 1028 = nI nd) (hnd8 : nd ≤ 8) (hM_0 : M o = some ((1, 0), .inr (7, [.ref av, .ref asp, .ref ak, .ref aik, .ref atx, .int le, .ref am, .int mn, .ref aa, .int pl, .ref ato]))) (hM_1 : M av = some ((1, 1), .inl (gcs G 0, 1310, .inl f))) : Met l yX8_disturb (ws_ yX8_disturb cX8_disturb 3 (some .int)) ({ frames := 1, cells := 0, slots := 0, locals := 22 }) (gPc G [.ref o, .int no, .int de] M) (gQi G (fun r9 M9 k9 => r9 = (if okD no de then (if nd = 8 then -3 else nI (nd + 1)) else -2) ∧ M9 av = some ((1, 1), .inl (gcs G 0, 1310, .inl (if okD no de ∧ ¬ nd = 8 then T_dist f no de nd else f))) ∧ gFr (gL [av]) M M9 ∧ k9 = 0)) 0 0 (gA G) := by
  refine gMet [(0, .ref o), (1, .int no), (2, .int de)] (by decide) (Nat.le_of_ble_eq_true rfl) rfl ?_
  intro p e s m below meth c hC
  refine g_iload_n hC dX8_disturb_0 1 rfl 1 rfl ?_
  refine g_iconst hC dX8_disturb_1 ki_1 2 rfl ?_
  refine g_bipush hC dX8_disturb_2 kb_15 4 rfl ?_
  refine g_calliP (g_S (As := [.int no, .int 1, .int 15]) (rest := []) hC msX8_in q2984 (met_T_in l G M no 1 15) ⟨rfl, rfl⟩ ⟨(Nat.le_of_ble_eq_true rfl), (Nat.le_of_ble_eq_true rfl)⟩ rfl (Nat.le_of_ble_eq_true rfl) dX8_disturb_4 rfl ⟨(Nat.le_of_ble_eq_true rfl), (Nat.le_of_ble_eq_true rfl)⟩) 7 rfl 0 (Nat.le_of_ble_eq_true rfl) ?_
  refine g_if_eq hC dX8_disturb_7 21 rfl 10 rfl (fun c_1 => ?_) (fun c_1 => ?_)
  · replace c_1 := bId_0 c_1
    refine g_bipush hC dX8_disturb_21 kb_m2 23 rfl ?_
    exact g_iret (v := -2) hC (fun k9 hk9 => ⟨(by simp only [okD, eq_false c_1, if_true, if_false, true_and, and_true, false_and, and_false, true_or, or_true, false_or, or_false, not_true_eq_false, not_false_eq_true, reduceIte, decide_true, decide_false, Bool.false_eq_true]), (by rw [hM_1]; simp only [T_dist, okD, eq_false c_1, if_true, if_false, true_and, and_true, false_and, and_false, true_or, or_true, false_or, or_false, not_true_eq_false, not_false_eq_true, reduceIte, decide_true, decide_false, Bool.false_eq_true]), gFr.refl, (by first | exact Nat.le_zero.mp hk9 | omega)⟩) dX8_disturb_23 (Nat.le_of_ble_eq_true rfl) (Nat.le_of_ble_eq_true rfl)
  · replace c_1 := bId_1 c_1
    refine g_iload_n hC dX8_disturb_10 2 rfl 11 rfl ?_
    refine g_iconst hC dX8_disturb_11 ki_0 12 rfl ?_
    refine g_sipush hC dX8_disturb_12 ks_200 15 rfl ?_
    refine g_calliP (g_S (As := [.int de, .int 0, .int 200]) (rest := []) hC msX8_in q2984 (met_T_in l G M de 0 200) ⟨rfl, rfl⟩ ⟨(Nat.le_of_ble_eq_true rfl), (Nat.le_of_ble_eq_true rfl)⟩ rfl (Nat.le_of_ble_eq_true rfl) dX8_disturb_15 rfl ⟨(Nat.le_of_ble_eq_true rfl), (Nat.le_of_ble_eq_true rfl)⟩) 18 rfl 0 (Nat.le_of_ble_eq_true rfl) ?_
    refine g_if_ne hC dX8_disturb_18 24 rfl 21 rfl (fun c_2 => ?_) (fun c_2 => ?_)
    · replace c_2 := bId_1 c_2
      refine g_aload_n hC dX8_disturb_24 0 rfl gRef_r 25 rfl ?_
      refine g_get (v := .ref av) hC cI7 hM_0 0 (Nat.le_of_ble_eq_true rfl) q2942 rfl dX8_disturb_25 28 rfl ?_
      refine g_sipush hC dX8_disturb_28 ks_1028 31 rfl ?_
      refine g_iald (v := nI nd) hC hM_1 0 rfl (vp_in_nI (n := 1028) (by first | decide | omega) (by first | decide | omega)) ((congrArg f (nI_clamp (n := 1028) (by decide))).trans hnd) dX8_disturb_31 32 rfl ?_
      refine g_bipush hC dX8_disturb_32 kb_8 34 rfl ?_
      refine g_icmp_ne hC dX8_disturb_34 40 rfl 37 rfl (fun c_3 => ?_) (fun c_3 => ?_)
      · replace c_3 : ¬ nd = 8 := nn_neq (by omega) (by omega) c_3
        refine g_aload_n hC dX8_disturb_40 0 rfl gRef_r 41 rfl ?_
        refine g_get (v := .ref av) hC cI7 hM_0 0 (Nat.le_of_ble_eq_true rfl) q2942 rfl dX8_disturb_41 44 rfl ?_
        refine g_sipush hC dX8_disturb_44 ks_1029 47 rfl ?_
        refine g_iconst hC dX8_disturb_47 ki_2 48 rfl ?_
        refine g_aload_n hC dX8_disturb_48 0 rfl gRef_r 49 rfl ?_
        refine g_get (v := .ref av) hC cI7 hM_0 0 (Nat.le_of_ble_eq_true rfl) q2942 rfl dX8_disturb_49 52 rfl ?_
        refine g_sipush hC dX8_disturb_52 ks_1028 55 rfl ?_
        refine g_iald (v := nI nd) hC hM_1 0 rfl (vp_in_nI (n := 1028) (by first | decide | omega) (by first | decide | omega)) ((congrArg f (nI_clamp (n := 1028) (by decide))).trans hnd) dX8_disturb_55 56 rfl ?_
        refine g_imul hC dX8_disturb_56 57 rfl ?_
        refine g_topi (y := nI (2 * nd)) (nI_m (a := 2) (b := nd) (c := (2 * nd)) (by omega)) ?_
        refine g_iadd hC dX8_disturb_57 58 rfl ?_
        refine g_topi (y := nI (2 * nd + 1029)) (nI_a (a := 1029) (b := (2 * nd)) (c := (2 * nd + 1029)) (by omega)) ?_
        refine g_aload_n hC dX8_disturb_58 0 rfl gRef_r 59 rfl ?_
        refine g_get (v := .ref av) hC cI7 hM_0 0 (Nat.le_of_ble_eq_true rfl) q2942 rfl dX8_disturb_59 62 rfl ?_
        refine g_sipush hC dX8_disturb_62 ks_1024 65 rfl ?_
        refine g_iald (v := f 1024) hC hM_1 0 rfl (vp_in_nI (n := 1024) (by first | decide | omega) (by first | decide | omega)) ((congrArg f (nI_clamp (n := 1024) (by decide))).trans rfl) dX8_disturb_65 66 rfl ?_
        refine g_iload_n hC dX8_disturb_66 2 rfl 67 rfl ?_
        refine g_iadd hC dX8_disturb_67 68 rfl ?_
        refine g_iast hC hM_1 0 rfl (vp_in_nI (by omega) (by omega)) (2 * nd + 1029) (nI_clamp (by omega)) dX8_disturb_68 69 rfl (fun M4 hU5 => ?_)
        obtain ⟨F6, eF7⟩ : ∃ z9, z9 = upd f (2 * nd + 1029) ((f 1024) + de) := ⟨_, rfl⟩
        rw [← eF7] at hU5
        have h8_8 : F6 1028 = nI nd := by rw [eF7, pk_un (by omega)]; exact hnd
        refine g_aload_n hC dX8_disturb_69 0 rfl gRef_r 70 rfl ?_
        refine g_get (v := .ref av) hC cI7 (hU5.n (gne_oa hM_0 hM_1) hM_0) 0 (Nat.le_of_ble_eq_true rfl) q2942 rfl dX8_disturb_70 73 rfl ?_
        refine g_sipush hC dX8_disturb_73 ks_1029 76 rfl ?_
        refine g_iconst hC dX8_disturb_76 ki_2 77 rfl ?_
        refine g_aload_n hC dX8_disturb_77 0 rfl gRef_r 78 rfl ?_
        refine g_get (v := .ref av) hC cI7 (hU5.n (gne_oa hM_0 hM_1) hM_0) 0 (Nat.le_of_ble_eq_true rfl) q2942 rfl dX8_disturb_78 81 rfl ?_
        refine g_sipush hC dX8_disturb_81 ks_1028 84 rfl ?_
        refine g_iald (v := nI nd) hC hU5.1 0 rfl (vp_in_nI (n := 1028) (by first | decide | omega) (by first | decide | omega)) ((congrArg F6 (nI_clamp (n := 1028) (by decide))).trans h8_8) dX8_disturb_84 85 rfl ?_
        refine g_imul hC dX8_disturb_85 86 rfl ?_
        refine g_topi (y := nI (2 * nd)) (nI_m (a := 2) (b := nd) (c := (2 * nd)) (by omega)) ?_
        refine g_iadd hC dX8_disturb_86 87 rfl ?_
        refine g_topi (y := nI (2 * nd + 1029)) (nI_a (a := 1029) (b := (2 * nd)) (c := (2 * nd + 1029)) (by omega)) ?_
        refine g_iconst hC dX8_disturb_87 ki_1 88 rfl ?_
        refine g_iadd hC dX8_disturb_88 89 rfl ?_
        refine g_topi (y := nI (2 * nd + 1030)) (nI_a (a := (2 * nd + 1029)) (b := 1) (c := (2 * nd + 1030)) (by omega)) ?_
        refine g_iload_n hC dX8_disturb_89 1 rfl 90 rfl ?_
        refine g_iast hC hU5.1 0 rfl (vp_in_nI (by omega) (by omega)) (2 * nd + 1030) (nI_clamp (by omega)) dX8_disturb_90 91 rfl (fun M9 hU10 => ?_)
        obtain ⟨F11, eF12⟩ : ∃ z9, z9 = upd F6 (2 * nd + 1030) no := ⟨_, rfl⟩
        rw [← eF12] at hU10
        refine g_aload_n hC dX8_disturb_91 0 rfl gRef_r 92 rfl ?_
        refine g_get (v := .ref av) hC cI7 (hU10.n (gne_oa (hU5.n (gne_oa hM_0 hM_1) hM_0) hU5.1) (hU5.n (gne_oa hM_0 hM_1) hM_0)) 0 (Nat.le_of_ble_eq_true rfl) q2942 rfl dX8_disturb_92 95 rfl ?_
        refine g_sipush hC dX8_disturb_95 ks_1028 98 rfl ?_
        have h8_13 : F11 1028 = nI nd := by rw [eF12, pk_un (by omega)]; exact h8_8
        refine g_dup2 hC dX8_disturb_98 rfl rfl 99 rfl ?_
        refine g_iald (v := nI nd) hC hU10.1 0 rfl (vp_in_nI (n := 1028) (by first | decide | omega) (by first | decide | omega)) ((congrArg F11 (nI_clamp (n := 1028) (by decide))).trans h8_13) dX8_disturb_99 100 rfl ?_
        refine g_iconst hC dX8_disturb_100 ki_1 101 rfl ?_
        refine g_iadd hC dX8_disturb_101 102 rfl ?_
        refine g_topi (y := nI (nd + 1)) (nI_a (a := nd) (b := 1) (c := (nd + 1)) (by omega)) ?_
        refine g_iast hC hU10.1 0 rfl (vp_in_nI (n := 1028) (by first | decide | omega) (by first | decide | omega)) 1028 (nI_clamp (n := 1028) (by decide)) dX8_disturb_102 103 rfl (fun M14 hU15 => ?_)
        obtain ⟨F16, eF17⟩ : ∃ z9, z9 = upd F11 1028 (nI (nd + 1)) := ⟨_, rfl⟩
        rw [← eF17] at hU15
        refine g_aload_n hC dX8_disturb_103 0 rfl gRef_r 104 rfl ?_
        refine g_get (v := .ref av) hC cI7 (hU15.n (gne_oa (hU10.n (gne_oa (hU5.n (gne_oa hM_0 hM_1) hM_0) hU5.1) (hU5.n (gne_oa hM_0 hM_1) hM_0)) hU10.1) (hU10.n (gne_oa (hU5.n (gne_oa hM_0 hM_1) hM_0) hU5.1) (hU5.n (gne_oa hM_0 hM_1) hM_0))) 0 (Nat.le_of_ble_eq_true rfl) q2942 rfl dX8_disturb_104 107 rfl ?_
        refine g_sipush hC dX8_disturb_107 ks_1028 110 rfl ?_
        refine g_iald (v := nI (nd + 1)) hC hU15.1 0 rfl (vp_in_nI (n := 1028) (by first | decide | omega) (by first | decide | omega)) ((congrArg F16 (nI_clamp (n := 1028) (by decide))).trans (by rw [eF17]; exact pk_us)) dX8_disturb_110 111 rfl ?_
        exact g_iret (v := nI (nd + 1)) hC (fun k9 hk9 => ⟨(by simp only [okD, eq_true c_1, eq_true c_2, eq_false c_3, eq_true h8_8, eq_true h8_13, if_true, if_false, true_and, and_true, false_and, and_false, true_or, or_true, false_or, or_false, not_true_eq_false, not_false_eq_true, reduceIte, decide_true, decide_false, Bool.false_eq_true]), (by rw [hU15.1]; simp only [T_dist, okD, eq_true c_1, eq_true c_2, eq_false c_3, eq_true h8_8, eq_true h8_13, ← eF7, ← eF12, ← eF17, if_true, if_false, true_and, and_true, false_and, and_false, true_or, or_true, false_or, or_false, not_true_eq_false, not_false_eq_true, reduceIte, decide_true, decide_false, Bool.false_eq_true]), (((gFr.refl.up hU5 hM_1 (by simp)).up hU10 hU5.1 (by simp)).up hU15 hU10.1 (by simp)), (by first | exact Nat.le_zero.mp hk9 | omega)⟩) dX8_disturb_111 (Nat.le_of_ble_eq_true rfl) (Nat.le_of_ble_eq_true rfl)
      · replace c_3 : nd = 8 := nn_eq (by omega) (by omega) c_3
        refine g_bipush hC dX8_disturb_37 kb_m3 39 rfl ?_
        exact g_iret (v := -3) hC (fun k9 hk9 => ⟨(by simp only [okD, eq_true c_1, eq_true c_2, eq_true c_3, if_true, if_false, true_and, and_true, false_and, and_false, true_or, or_true, false_or, or_false, not_true_eq_false, not_false_eq_true, reduceIte, decide_true, decide_false, Bool.false_eq_true]), (by rw [hM_1]; simp only [T_dist, okD, eq_true c_1, eq_true c_2, eq_true c_3, if_true, if_false, true_and, and_true, false_and, and_false, true_or, or_true, false_or, or_false, not_true_eq_false, not_false_eq_true, reduceIte, decide_true, decide_false, Bool.false_eq_true]), gFr.refl, (by first | exact Nat.le_zero.mp hk9 | omega)⟩) dX8_disturb_39 (Nat.le_of_ble_eq_true rfl) (Nat.le_of_ble_eq_true rfl)
    · replace c_2 := bId_0 c_2
      refine g_bipush hC dX8_disturb_21 kb_m2 23 rfl ?_
      exact g_iret (v := -2) hC (fun k9 hk9 => ⟨(by simp only [okD, eq_true c_1, eq_false c_2, if_true, if_false, true_and, and_true, false_and, and_false, true_or, or_true, false_or, or_false, not_true_eq_false, not_false_eq_true, reduceIte, decide_true, decide_false, Bool.false_eq_true]), (by rw [hM_1]; simp only [T_dist, okD, eq_true c_1, eq_false c_2, if_true, if_false, true_and, and_true, false_and, and_false, true_or, or_true, false_or, or_false, not_true_eq_false, not_false_eq_true, reduceIte, decide_true, decide_false, Bool.false_eq_true]), gFr.refl, (by first | exact Nat.le_zero.mp hk9 | omega)⟩) dX8_disturb_23 (Nat.le_of_ble_eq_true rfl) (Nat.le_of_ble_eq_true rfl)
set_option maxHeartbeats 4000000 in
theorem met_T_level_n (l : Launch) (G : gG) (M : gM) (o : Nat) (av : Nat) (asp : Nat) (ak : Nat) (aik : Nat) (atx : Nat) (le : Int32) (am : Nat) (mn : Int32) (aa : Nat) (pl : Int32) (ato : Nat) (f : Nat → Int32) (x : Int32) (hx : ¬ (1 ≤ x ∧ x ≤ 256)) (hM_0 : M o = some ((1, 0), .inr (7, [.ref av, .ref asp, .ref ak, .ref aik, .ref atx, .int le, .ref am, .int mn, .ref aa, .int pl, .ref ato]))) (hM_1 : M av = some ((1, 1), .inl (gcs G 0, 1310, .inl f))) : Met l yX8_level (ws_ yX8_level cX8_level 2 (some .int)) ({ frames := 1, cells := 0, slots := 0, locals := 22 }) (gPc G [.ref o, .int x] M) (gQi G (fun r9 M9 k9 => r9 = (-2) ∧ M9 = M ∧ k9 = 0)) 0 0 (gA G) := by
  refine gMet [(0, .ref o), (1, .int x)] (by decide) (Nat.le_of_ble_eq_true rfl) rfl ?_
  intro p e s m below meth c hC
  refine g_iload_n hC dX8_level_0 1 rfl 1 rfl ?_
  refine g_iconst hC dX8_level_1 ki_1 2 rfl ?_
  refine g_sipush hC dX8_level_2 ks_256 5 rfl ?_
  refine g_calliP (g_S (As := [.int x, .int 1, .int 256]) (rest := []) hC msX8_in q2984 (met_T_in l G M x 1 256) ⟨rfl, rfl⟩ ⟨(Nat.le_of_ble_eq_true rfl), (Nat.le_of_ble_eq_true rfl)⟩ rfl (Nat.le_of_ble_eq_true rfl) dX8_level_5 rfl ⟨(Nat.le_of_ble_eq_true rfl), (Nat.le_of_ble_eq_true rfl)⟩) 8 rfl 0 (Nat.le_of_ble_eq_true rfl) ?_
  refine g_if_ne hC dX8_level_8 14 rfl 11 rfl (fun c_1 => ?_) (fun c_1 => ?_)
  · replace c_1 := bId_1 c_1
    exact absurd c_1 hx
  · replace c_1 := bId_0 c_1
    refine g_bipush hC dX8_level_11 kb_m2 13 rfl ?_
    exact g_iret (v := -2) hC (fun k9 hk9 => ⟨rfl, rfl, Nat.le_zero.mp hk9⟩) dX8_level_13 (Nat.le_of_ble_eq_true rfl) (Nat.le_of_ble_eq_true rfl)
def T_lev (f : Nat → Int32) (tm b : Nat) : Int32 := if tm < b then -5 else f ((tm - b) % 256 + 1050)
set_option maxHeartbeats 4000000 in
theorem met_T_level (l : Launch) (G : gG) (M : gM) (o : Nat) (av : Nat) (asp : Nat) (ak : Nat) (aik : Nat) (atx : Nat) (le : Int32) (am : Nat) (mn : Int32) (aa : Nat) (pl : Int32) (ato : Nat) (f : Nat → Int32) (b : Nat) (tm : Nat) (h1 : 1 ≤ b) (h2 : b ≤ 256) (htm : f 1024 = nI tm) (htm9 : tm < 1000000) (hM_0 : M o = some ((1, 0), .inr (7, [.ref av, .ref asp, .ref ak, .ref aik, .ref atx, .int le, .ref am, .int mn, .ref aa, .int pl, .ref ato]))) (hM_1 : M av = some ((1, 1), .inl (gcs G 0, 1310, .inl f))) : Met l yX8_level (ws_ yX8_level cX8_level 2 (some .int)) ({ frames := 1, cells := 0, slots := 0, locals := 22 }) (gPc G [.ref o, .int (nI b)] M) (gQi G (fun r9 M9 k9 => r9 = (T_lev f tm b) ∧ M9 = M ∧ k9 = 0)) 0 0 (gA G) := by
  refine gMet [(0, .ref o), (1, .int (nI b))] (by decide) (Nat.le_of_ble_eq_true rfl) rfl ?_
  intro p e s m below meth c hC
  refine g_iload_n hC dX8_level_0 1 rfl 1 rfl ?_
  refine g_iconst hC dX8_level_1 ki_1 2 rfl ?_
  refine g_sipush hC dX8_level_2 ks_256 5 rfl ?_
  refine g_calliP (g_S (As := [.int (nI b), .int 1, .int 256]) (rest := []) hC msX8_in q2984 (met_T_in l G M (nI b) 1 256) ⟨rfl, rfl⟩ ⟨(Nat.le_of_ble_eq_true rfl), (Nat.le_of_ble_eq_true rfl)⟩ rfl (Nat.le_of_ble_eq_true rfl) dX8_level_5 rfl ⟨(Nat.le_of_ble_eq_true rfl), (Nat.le_of_ble_eq_true rfl)⟩) 8 rfl 0 (Nat.le_of_ble_eq_true rfl) ?_
  refine g_if_ne hC dX8_level_8 14 rfl 11 rfl (fun c_1 => ?_) (fun c_1 => ?_)
  · replace c_1 := bId_1 c_1
    refine g_iload_n hC dX8_level_14 1 rfl 15 rfl ?_
    refine g_aload_n hC dX8_level_15 0 rfl gRef_r 16 rfl ?_
    refine g_get (v := .ref av) hC cI7 hM_0 0 (Nat.le_of_ble_eq_true rfl) q2942 rfl dX8_level_16 19 rfl ?_
    refine g_sipush hC dX8_level_19 ks_1024 22 rfl ?_
    refine g_iald (v := nI tm) hC hM_1 0 rfl (vp_in_nI (n := 1024) (by first | decide | omega) (by first | decide | omega)) ((congrArg f (nI_clamp (n := 1024) (by decide))).trans htm) dX8_level_22 23 rfl ?_
    refine g_icmp_le hC dX8_level_23 31 rfl 26 rfl (fun c_2 => ?_) (fun c_2 => ?_)
    · replace c_2 : b ≤ tm := nn_le (by omega) (by omega) c_2
      obtain ⟨d, ed⟩ : ∃ y, tm = b + y := ⟨tm - b, by omega⟩
      subst ed
      refine g_aload_n hC dX8_level_31 0 rfl gRef_r 32 rfl ?_
      refine g_get (v := .ref av) hC cI7 hM_0 0 (Nat.le_of_ble_eq_true rfl) q2942 rfl dX8_level_32 35 rfl ?_
      refine g_sipush hC dX8_level_35 ks_1050 38 rfl ?_
      refine g_aload_n hC dX8_level_38 0 rfl gRef_r 39 rfl ?_
      refine g_get (v := .ref av) hC cI7 hM_0 0 (Nat.le_of_ble_eq_true rfl) q2942 rfl dX8_level_39 42 rfl ?_
      refine g_sipush hC dX8_level_42 ks_1024 45 rfl ?_
      refine g_iald (v := nI (b + d)) hC hM_1 0 rfl (vp_in_nI (n := 1024) (by first | decide | omega) (by first | decide | omega)) ((congrArg f (nI_clamp (n := 1024) (by decide))).trans htm) dX8_level_45 46 rfl ?_
      refine g_iload_n hC dX8_level_46 1 rfl 47 rfl ?_
      refine g_isub hC dX8_level_47 48 rfl ?_
      refine g_topi (y := nI d) (nI_s (a := (b + d)) (b := b) (c := d) (by omega)) ?_
      refine g_sipush hC dX8_level_48 ks_256 51 rfl ?_
      refine g_irem hC dX8_level_51 (by decide) 52 rfl ?_
      refine g_topi (y := nI (d % 256)) (pk_rem (a := d) (d := 256) (by omega) (by decide) (by decide)) ?_
      refine g_iadd hC dX8_level_52 53 rfl ?_
      refine g_topi (y := nI (d % 256 + 1050)) (nI_a (a := 1050) (b := (d % 256)) (c := (d % 256 + 1050)) (by omega)) ?_
      refine g_iald (v := f (d % 256 + 1050)) hC hM_1 0 rfl (vp_in_nI (by omega) (by omega)) ((congrArg f (nI_clamp (by omega))).trans rfl) dX8_level_53 54 rfl ?_
      exact g_iret (v := f (d % 256 + 1050)) hC (fun k9 hk9 => ⟨(by unfold T_lev; rw [if_neg (by omega), show b + d - b = d by omega]), rfl, Nat.le_zero.mp hk9⟩) dX8_level_54 (Nat.le_of_ble_eq_true rfl) (Nat.le_of_ble_eq_true rfl)
    · replace c_2 : tm < b := nn_nle (by omega) (by omega) c_2
      refine g_bipush hC dX8_level_26 kb_m5 28 rfl ?_
      refine g_goto hC dX8_level_28 54 rfl ?_
      exact g_iret (v := -5) hC (fun k9 hk9 => ⟨(by unfold T_lev; rw [if_pos c_2]), rfl, Nat.le_zero.mp hk9⟩) dX8_level_54 (Nat.le_of_ble_eq_true rfl) (Nat.le_of_ble_eq_true rfl)
  · replace c_1 := bId_0 c_1
    exact absurd (show 1 ≤ nI b ∧ nI b ≤ 256 from ⟨nI_le (a := 1) h1 (by omega), nI_le (b := 256) h2 (by omega)⟩) c_1
def winS (f : Nat → Int32) (i : Nat) (r : Option Nat) : Option Nat :=
  if ¬ f (256 * i) = 0 ∧ ¬ f (256 * i) = 1 ∧ ¬ f (256 * i + 23) ≤ 0 then (match r with
    | none => some i
    | some w => if T_key f i 0 < T_key f w 0 then some i else some w) else r
def winT (f : Nat → Int32) : Nat → Option Nat
  | 0 => none
  | i + 1 => winS f i (winT f i)
def winI (r : Option Nat) : Int32 := match r with
  | none => -5
  | some w => nI w
