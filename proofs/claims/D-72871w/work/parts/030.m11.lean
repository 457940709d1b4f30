/-! the reference: its public methods over the nodes -/
set_option maxRecDepth 100000
set_option maxHeartbeats 4000000 in
theorem met_T_of_n (l : Launch) (G : gG) (M : gM) (o : Nat) (av : Nat) (asp : Nat) (ak : Nat) (aik : Nat) (atx : Nat) (le : Int32) (am : Nat) (mn : Int32) (aa : Nat) (pl : Int32) (ato : Nat) (f : Nat → Int32) (x : Int32) (w : Int32) (hx : ¬ (0 ≤ x ∧ x ≤ 3)) (hM_0 : M o = some ((1, 0), .inr (7, [.ref av, .ref asp, .ref ak, .ref aik, .ref atx, .int le, .ref am, .int mn, .ref aa, .int pl, .ref ato]))) (hM_1 : M av = some ((1, 1), .inl (gcs G 0, 1310, .inl f))) : Met l yX8_of (ws_ yX8_of cX8_of 3 (some .int)) ({ frames := 2, cells := 0, slots := 0, locals := 42 }) (gPc G [.ref o, .int x, .int w] M) (gQi G (fun r9 M9 k9 => r9 = (-1) ∧ M9 = M ∧ k9 = 0)) 0 0 (gA G) := by
  refine gMet [(0, .ref o), (1, .int x), (2, .int w)] (by decide) (Nat.le_of_ble_eq_true rfl) rfl ?_
  intro p e s m below meth c hC
  refine g_iload_n hC dX8_of_0 1 rfl 1 rfl ?_
  refine g_calliP (g_S (As := [.int x]) (rest := []) hC msX8_isNode q3023 (met_T_isNode l G M x) ⟨rfl, rfl⟩ ⟨(Nat.le_of_ble_eq_true rfl), (Nat.le_of_ble_eq_true rfl)⟩ rfl (Nat.le_of_ble_eq_true rfl) dX8_of_1 rfl ⟨(Nat.le_of_ble_eq_true rfl), (Nat.le_of_ble_eq_true rfl)⟩) 4 rfl 0 (Nat.le_of_ble_eq_true rfl) ?_
  refine g_if_eq hC dX8_of_4 20 rfl 7 rfl (fun c_1 => ?_) (fun c_1 => ?_)
  · replace c_1 := bId_0 c_1
    refine g_iconst hC dX8_of_20 ki_m1 21 rfl ?_
    exact g_iret (v := -1) hC (fun k9 hk9 => ⟨rfl, rfl, Nat.le_zero.mp hk9⟩) dX8_of_21 (Nat.le_of_ble_eq_true rfl) (Nat.le_of_ble_eq_true rfl)
  · replace c_1 := bId_1 c_1
    exact absurd c_1 hx
set_option maxHeartbeats 4000000 in
theorem met_T_of (l : Launch) (G : gG) (M : gM) (o : Nat) (av : Nat) (asp : Nat) (ak : Nat) (aik : Nat) (atx : Nat) (le : Int32) (am : Nat) (mn : Int32) (aa : Nat) (pl : Int32) (ato : Nat) (f : Nat → Int32) (k : Nat) (w : Nat) (hk : k < 4) (hw : w < 256) (hM_0 : M o = some ((1, 0), .inr (7, [.ref av, .ref asp, .ref ak, .ref aik, .ref atx, .int le, .ref am, .int mn, .ref aa, .int pl, .ref ato]))) (hM_1 : M av = some ((1, 1), .inl (gcs G 0, 1310, .inl f))) : Met l yX8_of (ws_ yX8_of cX8_of 3 (some .int)) ({ frames := 2, cells := 0, slots := 0, locals := 42 }) (gPc G [.ref o, .int (nI k), .int (nI w)] M) (gQi G (fun r9 M9 k9 => r9 = (f (256 * k + w)) ∧ M9 = M ∧ k9 = 0)) 0 0 (gA G) := by
  refine gMet [(0, .ref o), (1, .int (nI k)), (2, .int (nI w))] (by decide) (Nat.le_of_ble_eq_true rfl) rfl ?_
  intro p e s m below meth c hC
  refine g_iload_n hC dX8_of_0 1 rfl 1 rfl ?_
  refine g_calliP (g_S (As := [.int (nI k)]) (rest := []) hC msX8_isNode q3023 (met_T_isNode l G M (nI k)) ⟨rfl, rfl⟩ ⟨(Nat.le_of_ble_eq_true rfl), (Nat.le_of_ble_eq_true rfl)⟩ rfl (Nat.le_of_ble_eq_true rfl) dX8_of_1 rfl ⟨(Nat.le_of_ble_eq_true rfl), (Nat.le_of_ble_eq_true rfl)⟩) 4 rfl 0 (Nat.le_of_ble_eq_true rfl) ?_
  refine g_if_eq hC dX8_of_4 20 rfl 7 rfl (fun c_1 => ?_) (fun c_1 => ?_)
  · replace c_1 := bId_0 c_1
    exact absurd (nk_in hk) c_1
  · replace c_1 := bId_1 c_1
    refine g_aload_n hC dX8_of_7 0 rfl gRef_r 8 rfl ?_
    refine g_get (v := .ref av) hC cI7 hM_0 0 (Nat.le_of_ble_eq_true rfl) q2942 rfl dX8_of_8 11 rfl ?_
    refine g_iload_n hC dX8_of_11 1 rfl 12 rfl ?_
    refine g_iload_n hC dX8_of_12 2 rfl 13 rfl ?_
    refine g_calliP (g_S (As := [.int (nI k), .int (nI w)]) (rest := [.ref av]) hC msX8_at q2939 (met_T_at l G M k w) ⟨rfl, rfl⟩ ⟨(Nat.le_of_ble_eq_true rfl), (Nat.le_of_ble_eq_true rfl)⟩ rfl (Nat.le_of_ble_eq_true rfl) dX8_of_13 rfl ⟨(Nat.le_of_ble_eq_true rfl), (Nat.le_of_ble_eq_true rfl)⟩) 16 rfl 0 (Nat.le_of_ble_eq_true rfl) ?_
    refine g_iald (v := f (256 * k + w)) hC hM_1 0 rfl (vp_in_nI (by omega) (by omega)) ((congrArg f (nI_clamp (by omega))).trans rfl) dX8_of_16 17 rfl ?_
    refine g_goto hC dX8_of_17 21 rfl ?_
    exact g_iret (v := f (256 * k + w)) hC (fun k9 hk9 => ⟨rfl, rfl, Nat.le_zero.mp hk9⟩) dX8_of_21 (Nat.le_of_ble_eq_true rfl) (Nat.le_of_ble_eq_true rfl)
set_option maxHeartbeats 4000000 in
theorem met_T_phase_n (l : Launch) (G : gG) (M : gM) (o : Nat) (av : Nat) (asp : Nat) (ak : Nat) (aik : Nat) (atx : Nat) (le : Int32) (am : Nat) (mn : Int32) (aa : Nat) (pl : Int32) (ato : Nat) (f : Nat → Int32) (x : Int32) (hx : ¬ (0 ≤ x ∧ x ≤ 3)) (hM_0 : M o = some ((1, 0), .inr (7, [.ref av, .ref asp, .ref ak, .ref aik, .ref atx, .int le, .ref am, .int mn, .ref aa, .int pl, .ref ato]))) (hM_1 : M av = some ((1, 1), .inl (gcs G 0, 1310, .inl f))) : Met l yX8_phase (ws_ yX8_phase cX8_phase 2 (some .int)) ({ frames := 3, cells := 0, slots := 0, locals := 64 }) (gPc G [.ref o, .int x] M) (gQi G (fun r9 M9 k9 => r9 = (-1) ∧ M9 = M ∧ k9 = 0)) 0 0 (gA G) := by
  refine gMet [(0, .ref o), (1, .int x)] (by decide) (Nat.le_of_ble_eq_true rfl) rfl ?_
  intro p e s m below meth c hC
  refine g_aload_n hC dX8_phase_0 0 rfl gRef_r 1 rfl ?_
  refine g_iload_n hC dX8_phase_1 1 rfl 2 rfl ?_
  refine g_iconst hC dX8_phase_2 ki_0 3 rfl ?_
  refine g_calliP (g_V (As := [.int x, .int 0]) (rest := []) hC mvX8_of q3207 (gOf.of hC.K cI7 hM_0) (met_T_of_n l G M o av asp ak aik atx le am mn aa pl ato f x 0 hx hM_0 hM_1) ⟨rfl, rfl⟩ ⟨(Nat.le_of_ble_eq_true rfl), (Nat.le_of_ble_eq_true rfl)⟩ rfl (Nat.le_of_ble_eq_true rfl) dX8_phase_3 rfl ⟨(Nat.le_of_ble_eq_true rfl), (Nat.le_of_ble_eq_true rfl)⟩) 6 rfl 0 (Nat.le_of_ble_eq_true rfl) ?_
  exact g_iret (v := -1) hC (fun k9 hk9 => ⟨rfl, rfl, Nat.le_zero.mp hk9⟩) dX8_phase_6 (Nat.le_of_ble_eq_true rfl) (Nat.le_of_ble_eq_true rfl)
set_option maxHeartbeats 4000000 in
theorem met_T_phase (l : Launch) (G : gG) (M : gM) (o : Nat) (av : Nat) (asp : Nat) (ak : Nat) (aik : Nat) (atx : Nat) (le : Int32) (am : Nat) (mn : Int32) (aa : Nat) (pl : Int32) (ato : Nat) (f : Nat → Int32) (k : Nat) (hk : k < 4) (hM_0 : M o = some ((1, 0), .inr (7, [.ref av, .ref asp, .ref ak, .ref aik, .ref atx, .int le, .ref am, .int mn, .ref aa, .int pl, .ref ato]))) (hM_1 : M av = some ((1, 1), .inl (gcs G 0, 1310, .inl f))) : Met l yX8_phase (ws_ yX8_phase cX8_phase 2 (some .int)) ({ frames := 3, cells := 0, slots := 0, locals := 64 }) (gPc G [.ref o, .int (nI k)] M) (gQi G (fun r9 M9 k9 => r9 = (f (256 * k + 0)) ∧ M9 = M ∧ k9 = 0)) 0 0 (gA G) := by
  refine gMet [(0, .ref o), (1, .int (nI k))] (by decide) (Nat.le_of_ble_eq_true rfl) rfl ?_
  intro p e s m below meth c hC
  refine g_aload_n hC dX8_phase_0 0 rfl gRef_r 1 rfl ?_
  refine g_iload_n hC dX8_phase_1 1 rfl 2 rfl ?_
  refine g_iconst hC dX8_phase_2 ki_0 3 rfl ?_
  refine g_calliP (g_V (As := [.int (nI k), .int 0]) (rest := []) hC mvX8_of q3207 (gOf.of hC.K cI7 hM_0) (met_T_of l G M o av asp ak aik atx le am mn aa pl ato f k 0 hk (by first | assumption | decide | omega | simp_all) hM_0 hM_1) ⟨rfl, rfl⟩ ⟨(Nat.le_of_ble_eq_true rfl), (Nat.le_of_ble_eq_true rfl)⟩ rfl (Nat.le_of_ble_eq_true rfl) dX8_phase_3 rfl ⟨(Nat.le_of_ble_eq_true rfl), (Nat.le_of_ble_eq_true rfl)⟩) 6 rfl 0 (Nat.le_of_ble_eq_true rfl) ?_
  exact g_iret (v := f (256 * k + 0)) hC (fun k9 hk9 => ⟨rfl, rfl, Nat.le_zero.mp hk9⟩) dX8_phase_6 (Nat.le_of_ble_eq_true rfl) (Nat.le_of_ble_eq_true rfl)
set_option maxHeartbeats 4000000 in
theorem met_T_isTransmitter_n (l : Launch) (G : gG) (M : gM) (o : Nat) (av : Nat) (asp : Nat) (ak : Nat) (aik : Nat) (atx : Nat) (le : Int32) (am : Nat) (mn : Int32) (aa : Nat) (pl : Int32) (ato : Nat) (f : Nat → Int32) (x : Int32) (hx : ¬ (0 ≤ x ∧ x ≤ 3)) (hM_0 : M o = some ((1, 0), .inr (7, [.ref av, .ref asp, .ref ak, .ref aik, .ref atx, .int le, .ref am, .int mn, .ref aa, .int pl, .ref ato]))) (hM_1 : M av = some ((1, 1), .inl (gcs G 0, 1310, .inl f))) : Met l yX8_isTransmitter (ws_ yX8_isTransmitter cX8_isTransmitter 2 (some .int)) ({ frames := 3, cells := 0, slots := 0, locals := 64 }) (gPc G [.ref o, .int x] M) (gQi G (fun r9 M9 k9 => r9 = (-1) ∧ M9 = M ∧ k9 = 0)) 0 0 (gA G) := by
  refine gMet [(0, .ref o), (1, .int x)] (by decide) (Nat.le_of_ble_eq_true rfl) rfl ?_
  intro p e s m below meth c hC
  refine g_aload_n hC dX8_isTransmitter_0 0 rfl gRef_r 1 rfl ?_
  refine g_iload_n hC dX8_isTransmitter_1 1 rfl 2 rfl ?_
  refine g_iconst hC dX8_isTransmitter_2 ki_1 3 rfl ?_
  refine g_calliP (g_V (As := [.int x, .int 1]) (rest := []) hC mvX8_of q3207 (gOf.of hC.K cI7 hM_0) (met_T_of_n l G M o av asp ak aik atx le am mn aa pl ato f x 1 hx hM_0 hM_1) ⟨rfl, rfl⟩ ⟨(Nat.le_of_ble_eq_true rfl), (Nat.le_of_ble_eq_true rfl)⟩ rfl (Nat.le_of_ble_eq_true rfl) dX8_isTransmitter_3 rfl ⟨(Nat.le_of_ble_eq_true rfl), (Nat.le_of_ble_eq_true rfl)⟩) 6 rfl 0 (Nat.le_of_ble_eq_true rfl) ?_
  exact g_iret (v := -1) hC (fun k9 hk9 => ⟨rfl, rfl, Nat.le_zero.mp hk9⟩) dX8_isTransmitter_6 (Nat.le_of_ble_eq_true rfl) (Nat.le_of_ble_eq_true rfl)
set_option maxHeartbeats 4000000 in
theorem met_T_isTransmitter (l : Launch) (G : gG) (M : gM) (o : Nat) (av : Nat) (asp : Nat) (ak : Nat) (aik : Nat) (atx : Nat) (le : Int32) (am : Nat) (mn : Int32) (aa : Nat) (pl : Int32) (ato : Nat) (f : Nat → Int32) (k : Nat) (hk : k < 4) (hM_0 : M o = some ((1, 0), .inr (7, [.ref av, .ref asp, .ref ak, .ref aik, .ref atx, .int le, .ref am, .int mn, .ref aa, .int pl, .ref ato]))) (hM_1 : M av = some ((1, 1), .inl (gcs G 0, 1310, .inl f))) : Met l yX8_isTransmitter (ws_ yX8_isTransmitter cX8_isTransmitter 2 (some .int)) ({ frames := 3, cells := 0, slots := 0, locals := 64 }) (gPc G [.ref o, .int (nI k)] M) (gQi G (fun r9 M9 k9 => r9 = (f (256 * k + 1)) ∧ M9 = M ∧ k9 = 0)) 0 0 (gA G) := by
  refine gMet [(0, .ref o), (1, .int (nI k))] (by decide) (Nat.le_of_ble_eq_true rfl) rfl ?_
  intro p e s m below meth c hC
  refine g_aload_n hC dX8_isTransmitter_0 0 rfl gRef_r 1 rfl ?_
  refine g_iload_n hC dX8_isTransmitter_1 1 rfl 2 rfl ?_
  refine g_iconst hC dX8_isTransmitter_2 ki_1 3 rfl ?_
  refine g_calliP (g_V (As := [.int (nI k), .int 1]) (rest := []) hC mvX8_of q3207 (gOf.of hC.K cI7 hM_0) (met_T_of l G M o av asp ak aik atx le am mn aa pl ato f k 1 hk (by first | assumption | decide | omega | simp_all) hM_0 hM_1) ⟨rfl, rfl⟩ ⟨(Nat.le_of_ble_eq_true rfl), (Nat.le_of_ble_eq_true rfl)⟩ rfl (Nat.le_of_ble_eq_true rfl) dX8_isTransmitter_3 rfl ⟨(Nat.le_of_ble_eq_true rfl), (Nat.le_of_ble_eq_true rfl)⟩) 6 rfl 0 (Nat.le_of_ble_eq_true rfl) ?_
  exact g_iret (v := f (256 * k + 1)) hC (fun k9 hk9 => ⟨rfl, rfl, Nat.le_zero.mp hk9⟩) dX8_isTransmitter_6 (Nat.le_of_ble_eq_true rfl) (Nat.le_of_ble_eq_true rfl)
set_option maxHeartbeats 4000000 in
theorem met_T_transmitErrors_n (l : Launch) (G : gG) (M : gM) (o : Nat) (av : Nat) (asp : Nat) (ak : Nat) (aik : Nat) (atx : Nat) (le : Int32) (am : Nat) (mn : Int32) (aa : Nat) (pl : Int32) (ato : Nat) (f : Nat → Int32) (x : Int32) (hx : ¬ (0 ≤ x ∧ x ≤ 3)) (hM_0 : M o = some ((1, 0), .inr (7, [.ref av, .ref asp, .ref ak, .ref aik, .ref atx, .int le, .ref am, .int mn, .ref aa, .int pl, .ref ato]))) (hM_1 : M av = some ((1, 1), .inl (gcs G 0, 1310, .inl f))) : Met l yX8_transmitErrors (ws_ yX8_transmitErrors cX8_transmitErrors 2 (some .int)) ({ frames := 3, cells := 0, slots := 0, locals := 64 }) (gPc G [.ref o, .int x] M) (gQi G (fun r9 M9 k9 => r9 = (-1) ∧ M9 = M ∧ k9 = 0)) 0 0 (gA G) := by
  refine gMet [(0, .ref o), (1, .int x)] (by decide) (Nat.le_of_ble_eq_true rfl) rfl ?_
  intro p e s m below meth c hC
  refine g_aload_n hC dX8_transmitErrors_0 0 rfl gRef_r 1 rfl ?_
  refine g_iload_n hC dX8_transmitErrors_1 1 rfl 2 rfl ?_
  refine g_iconst hC dX8_transmitErrors_2 ki_4 3 rfl ?_
  refine g_calliP (g_V (As := [.int x, .int 4]) (rest := []) hC mvX8_of q3207 (gOf.of hC.K cI7 hM_0) (met_T_of_n l G M o av asp ak aik atx le am mn aa pl ato f x 4 hx hM_0 hM_1) ⟨rfl, rfl⟩ ⟨(Nat.le_of_ble_eq_true rfl), (Nat.le_of_ble_eq_true rfl)⟩ rfl (Nat.le_of_ble_eq_true rfl) dX8_transmitErrors_3 rfl ⟨(Nat.le_of_ble_eq_true rfl), (Nat.le_of_ble_eq_true rfl)⟩) 6 rfl 0 (Nat.le_of_ble_eq_true rfl) ?_
  exact g_iret (v := -1) hC (fun k9 hk9 => ⟨rfl, rfl, Nat.le_zero.mp hk9⟩) dX8_transmitErrors_6 (Nat.le_of_ble_eq_true rfl) (Nat.le_of_ble_eq_true rfl)
set_option maxHeartbeats 4000000 in
theorem met_T_transmitErrors (l : Launch) (G : gG) (M : gM) (o : Nat) (av : Nat) (asp : Nat) (ak : Nat) (aik : Nat) (atx : Nat) (le : Int32) (am : Nat) (mn : Int32) (aa : Nat) (pl : Int32) (ato : Nat) (f : Nat → Int32) (k : Nat) (hk : k < 4) (hM_0 : M o = some ((1, 0), .inr (7, [.ref av, .ref asp, .ref ak, .ref aik, .ref atx, .int le, .ref am, .int mn, .ref aa, .int pl, .ref ato]))) (hM_1 : M av = some ((1, 1), .inl (gcs G 0, 1310, .inl f))) : Met l yX8_transmitErrors (ws_ yX8_transmitErrors cX8_transmitErrors 2 (some .int)) ({ frames := 3, cells := 0, slots := 0, locals := 64 }) (gPc G [.ref o, .int (nI k)] M) (gQi G (fun r9 M9 k9 => r9 = (f (256 * k + 4)) ∧ M9 = M ∧ k9 = 0)) 0 0 (gA G) := by
  refine gMet [(0, .ref o), (1, .int (nI k))] (by decide) (Nat.le_of_ble_eq_true rfl) rfl ?_
  intro p e s m below meth c hC
  refine g_aload_n hC dX8_transmitErrors_0 0 rfl gRef_r 1 rfl ?_
  refine g_iload_n hC dX8_transmitErrors_1 1 rfl 2 rfl ?_
  refine g_iconst hC dX8_transmitErrors_2 ki_4 3 rfl ?_
  refine g_calliP (g_V (As := [.int (nI k), .int 4]) (rest := []) hC mvX8_of q3207 (gOf.of hC.K cI7 hM_0) (met_T_of l G M o av asp ak aik atx le am mn aa pl ato f k 4 hk (by first | assumption | decide | omega | simp_all) hM_0 hM_1) ⟨rfl, rfl⟩ ⟨(Nat.le_of_ble_eq_true rfl), (Nat.le_of_ble_eq_true rfl)⟩ rfl (Nat.le_of_ble_eq_true rfl) dX8_transmitErrors_3 rfl ⟨(Nat.le_of_ble_eq_true rfl), (Nat.le_of_ble_eq_true rfl)⟩) 6 rfl 0 (Nat.le_of_ble_eq_true rfl) ?_
  exact g_iret (v := f (256 * k + 4)) hC (fun k9 hk9 => ⟨rfl, rfl, Nat.le_zero.mp hk9⟩) dX8_transmitErrors_6 (Nat.le_of_ble_eq_true rfl) (Nat.le_of_ble_eq_true rfl)
set_option maxHeartbeats 4000000 in
theorem met_T_receiveErrors_n (l : Launch) (G : gG) (M : gM) (o : Nat) (av : Nat) (asp : Nat) (ak : Nat) (aik : Nat) (atx : Nat) (le : Int32) (am : Nat) (mn : Int32) (aa : Nat) (pl : Int32) (ato : Nat) (f : Nat → Int32) (x : Int32) (hx : ¬ (0 ≤ x ∧ x ≤ 3)) (hM_0 : M o = some ((1, 0), .inr (7, [.ref av, .ref asp, .ref ak, .ref aik, .ref atx, .int le, .ref am, .int mn, .ref aa, .int pl, .ref ato]))) (hM_1 : M av = some ((1, 1), .inl (gcs G 0, 1310, .inl f))) : Met l yX8_receiveErrors (ws_ yX8_receiveErrors cX8_receiveErrors 2 (some .int)) ({ frames := 3, cells := 0, slots := 0, locals := 64 }) (gPc G [.ref o, .int x] M) (gQi G (fun r9 M9 k9 => r9 = (-1) ∧ M9 = M ∧ k9 = 0)) 0 0 (gA G) := by
  refine gMet [(0, .ref o), (1, .int x)] (by decide) (Nat.le_of_ble_eq_true rfl) rfl ?_
  intro p e s m below meth c hC
  refine g_aload_n hC dX8_receiveErrors_0 0 rfl gRef_r 1 rfl ?_
  refine g_iload_n hC dX8_receiveErrors_1 1 rfl 2 rfl ?_
  refine g_iconst hC dX8_receiveErrors_2 ki_5 3 rfl ?_
  refine g_calliP (g_V (As := [.int x, .int 5]) (rest := []) hC mvX8_of q3207 (gOf.of hC.K cI7 hM_0) (met_T_of_n l G M o av asp ak aik atx le am mn aa pl ato f x 5 hx hM_0 hM_1) ⟨rfl, rfl⟩ ⟨(Nat.le_of_ble_eq_true rfl), (Nat.le_of_ble_eq_true rfl)⟩ rfl (Nat.le_of_ble_eq_true rfl) dX8_receiveErrors_3 rfl ⟨(Nat.le_of_ble_eq_true rfl), (Nat.le_of_ble_eq_true rfl)⟩) 6 rfl 0 (Nat.le_of_ble_eq_true rfl) ?_
  exact g_iret (v := -1) hC (fun k9 hk9 => ⟨rfl, rfl, Nat.le_zero.mp hk9⟩) dX8_receiveErrors_6 (Nat.le_of_ble_eq_true rfl) (Nat.le_of_ble_eq_true rfl)
set_option maxHeartbeats 4000000 in
theorem met_T_receiveErrors (l : Launch) (G : gG) (M : gM) (o : Nat) (av : Nat) (asp : Nat) (ak : Nat) (aik : Nat) (atx : Nat) (le : Int32) (am : Nat) (mn : Int32) (aa : Nat) (pl : Int32) (ato : Nat) (f : Nat → Int32) (k : Nat) (hk : k < 4) (hM_0 : M o = some ((1, 0), .inr (7, [.ref av, .ref asp, .ref ak, .ref aik, .ref atx, .int le, .ref am, .int mn, .ref aa, .int pl, .ref ato]))) (hM_1 : M av = some ((1, 1), .inl (gcs G 0, 1310, .inl f))) : Met l yX8_receiveErrors (ws_ yX8_receiveErrors cX8_receiveErrors 2 (some .int)) ({ frames := 3, cells := 0, slots := 0, locals := 64 }) (gPc G [.ref o, .int (nI k)] M) (gQi G (fun r9 M9 k9 => r9 = (f (256 * k + 5)) ∧ M9 = M ∧ k9 = 0)) 0 0 (gA G) := by
  refine gMet [(0, .ref o), (1, .int (nI k))] (by decide) (Nat.le_of_ble_eq_true rfl) rfl ?_
  intro p e s m below meth c hC
  refine g_aload_n hC dX8_receiveErrors_0 0 rfl gRef_r 1 rfl ?_
  refine g_iload_n hC dX8_receiveErrors_1 1 rfl 2 rfl ?_
  refine g_iconst hC dX8_receiveErrors_2 ki_5 3 rfl ?_
  refine g_calliP (g_V (As := [.int (nI k), .int 5]) (rest := []) hC mvX8_of q3207 (gOf.of hC.K cI7 hM_0) (met_T_of l G M o av asp ak aik atx le am mn aa pl ato f k 5 hk (by first | assumption | decide | omega | simp_all) hM_0 hM_1) ⟨rfl, rfl⟩ ⟨(Nat.le_of_ble_eq_true rfl), (Nat.le_of_ble_eq_true rfl)⟩ rfl (Nat.le_of_ble_eq_true rfl) dX8_receiveErrors_3 rfl ⟨(Nat.le_of_ble_eq_true rfl), (Nat.le_of_ble_eq_true rfl)⟩) 6 rfl 0 (Nat.le_of_ble_eq_true rfl) ?_
  exact g_iret (v := f (256 * k + 5)) hC (fun k9 hk9 => ⟨rfl, rfl, Nat.le_zero.mp hk9⟩) dX8_receiveErrors_6 (Nat.le_of_ble_eq_true rfl) (Nat.le_of_ble_eq_true rfl)
set_option maxHeartbeats 4000000 in
theorem met_T_lostArbitrations_n (l : Launch) (G : gG) (M : gM) (o : Nat) (av : Nat) (asp : Nat) (ak : Nat) (aik : Nat) (atx : Nat) (le : Int32) (am : Nat) (mn : Int32) (aa : Nat) (pl : Int32) (ato : Nat) (f : Nat → Int32) (x : Int32) (hx : ¬ (0 ≤ x ∧ x ≤ 3)) (hM_0 : M o = some ((1, 0), .inr (7, [.ref av, .ref asp, .ref ak, .ref aik, .ref atx, .int le, .ref am, .int mn, .ref aa, .int pl, .ref ato]))) (hM_1 : M av = some ((1, 1), .inl (gcs G 0, 1310, .inl f))) : Met l yX8_lostArbitrations (ws_ yX8_lostArbitrations cX8_lostArbitrations 2 (some .int)) ({ frames := 3, cells := 0, slots := 0, locals := 64 }) (gPc G [.ref o, .int x] M) (gQi G (fun r9 M9 k9 => r9 = (-1) ∧ M9 = M ∧ k9 = 0)) 0 0 (gA G) := by
  refine gMet [(0, .ref o), (1, .int x)] (by decide) (Nat.le_of_ble_eq_true rfl) rfl ?_
  intro p e s m below meth c hC
  refine g_aload_n hC dX8_lostArbitrations_0 0 rfl gRef_r 1 rfl ?_
  refine g_iload_n hC dX8_lostArbitrations_1 1 rfl 2 rfl ?_
  refine g_bipush hC dX8_lostArbitrations_2 kb_12 4 rfl ?_
  refine g_calliP (g_V (As := [.int x, .int 12]) (rest := []) hC mvX8_of q3207 (gOf.of hC.K cI7 hM_0) (met_T_of_n l G M o av asp ak aik atx le am mn aa pl ato f x 12 hx hM_0 hM_1) ⟨rfl, rfl⟩ ⟨(Nat.le_of_ble_eq_true rfl), (Nat.le_of_ble_eq_true rfl)⟩ rfl (Nat.le_of_ble_eq_true rfl) dX8_lostArbitrations_4 rfl ⟨(Nat.le_of_ble_eq_true rfl), (Nat.le_of_ble_eq_true rfl)⟩) 7 rfl 0 (Nat.le_of_ble_eq_true rfl) ?_
  exact g_iret (v := -1) hC (fun k9 hk9 => ⟨rfl, rfl, Nat.le_zero.mp hk9⟩) dX8_lostArbitrations_7 (Nat.le_of_ble_eq_true rfl) (Nat.le_of_ble_eq_true rfl)
set_option maxHeartbeats 4000000 in
theorem met_T_lostArbitrations (l : Launch) (G : gG) (M : gM) (o : Nat) (av : Nat) (asp : Nat) (ak : Nat) (aik : Nat) (atx : Nat) (le : Int32) (am : Nat) (mn : Int32) (aa : Nat) (pl : Int32) (ato : Nat) (f : Nat → Int32) (k : Nat) (hk : k < 4) (hM_0 : M o = some ((1, 0), .inr (7, [.ref av, .ref asp, .ref ak, .ref aik, .ref atx, .int le, .ref am, .int mn, .ref aa, .int pl, .ref ato]))) (hM_1 : M av = some ((1, 1), .inl (gcs G 0, 1310, .inl f))) : Met l yX8_lostArbitrations (ws_ yX8_lostArbitrations cX8_lostArbitrations 2 (some .int)) ({ frames := 3, cells := 0, slots := 0, locals := 64 }) (gPc G [.ref o, .int (nI k)] M) (gQi G (fun r9 M9 k9 => r9 = (f (256 * k + 12)) ∧ M9 = M ∧ k9 = 0)) 0 0 (gA G) := by
  refine gMet [(0, .ref o), (1, .int (nI k))] (by decide) (Nat.le_of_ble_eq_true rfl) rfl ?_
  intro p e s m below meth c hC
  refine g_aload_n hC dX8_lostArbitrations_0 0 rfl gRef_r 1 rfl ?_
  refine g_iload_n hC dX8_lostArbitrations_1 1 rfl 2 rfl ?_
  refine g_bipush hC dX8_lostArbitrations_2 kb_12 4 rfl ?_
  refine g_calliP (g_V (As := [.int (nI k), .int 12]) (rest := []) hC mvX8_of q3207 (gOf.of hC.K cI7 hM_0) (met_T_of l G M o av asp ak aik atx le am mn aa pl ato f k 12 hk (by first | assumption | decide | omega | simp_all) hM_0 hM_1) ⟨rfl, rfl⟩ ⟨(Nat.le_of_ble_eq_true rfl), (Nat.le_of_ble_eq_true rfl)⟩ rfl (Nat.le_of_ble_eq_true rfl) dX8_lostArbitrations_4 rfl ⟨(Nat.le_of_ble_eq_true rfl), (Nat.le_of_ble_eq_true rfl)⟩) 7 rfl 0 (Nat.le_of_ble_eq_true rfl) ?_
  exact g_iret (v := f (256 * k + 12)) hC (fun k9 hk9 => ⟨rfl, rfl, Nat.le_zero.mp hk9⟩) dX8_lostArbitrations_7 (Nat.le_of_ble_eq_true rfl) (Nat.le_of_ble_eq_true rfl)
set_option maxHeartbeats 4000000 in
theorem met_T_overloads_n (l : Launch) (G : gG) (M : gM) (o : Nat) (av : Nat) (asp : Nat) (ak : Nat) (aik : Nat) (atx : Nat) (le : Int32) (am : Nat) (mn : Int32) (aa : Nat) (pl : Int32) (ato : Nat) (f : Nat → Int32) (x : Int32) (hx : ¬ (0 ≤ x ∧ x ≤ 3)) (hM_0 : M o = some ((1, 0), .inr (7, [.ref av, .ref asp, .ref ak, .ref aik, .ref atx, .int le, .ref am, .int mn, .ref aa, .int pl, .ref ato]))) (hM_1 : M av = some ((1, 1), .inl (gcs G 0, 1310, .inl f))) : Met l yX8_overloads (ws_ yX8_overloads cX8_overloads 2 (some .int)) ({ frames := 3, cells := 0, slots := 0, locals := 64 }) (gPc G [.ref o, .int x] M) (gQi G (fun r9 M9 k9 => r9 = (-1) ∧ M9 = M ∧ k9 = 0)) 0 0 (gA G) := by
  refine gMet [(0, .ref o), (1, .int x)] (by decide) (Nat.le_of_ble_eq_true rfl) rfl ?_
  intro p e s m below meth c hC
  refine g_aload_n hC dX8_overloads_0 0 rfl gRef_r 1 rfl ?_
  refine g_iload_n hC dX8_overloads_1 1 rfl 2 rfl ?_
  refine g_bipush hC dX8_overloads_2 kb_13 4 rfl ?_
  refine g_calliP (g_V (As := [.int x, .int 13]) (rest := []) hC mvX8_of q3207 (gOf.of hC.K cI7 hM_0) (met_T_of_n l G M o av asp ak aik atx le am mn aa pl ato f x 13 hx hM_0 hM_1) ⟨rfl, rfl⟩ ⟨(Nat.le_of_ble_eq_true rfl), (Nat.le_of_ble_eq_true rfl)⟩ rfl (Nat.le_of_ble_eq_true rfl) dX8_overloads_4 rfl ⟨(Nat.le_of_ble_eq_true rfl), (Nat.le_of_ble_eq_true rfl)⟩) 7 rfl 0 (Nat.le_of_ble_eq_true rfl) ?_
  exact g_iret (v := -1) hC (fun k9 hk9 => ⟨rfl, rfl, Nat.le_zero.mp hk9⟩) dX8_overloads_7 (Nat.le_of_ble_eq_true rfl) (Nat.le_of_ble_eq_true rfl)
set_option maxHeartbeats 4000000 in
theorem met_T_overloads (l : Launch) (G : gG) (M : gM) (o : Nat) (av : Nat) (asp : Nat) (ak : Nat) (aik : Nat) (atx : Nat) (le : Int32) (am : Nat) (mn : Int32) (aa : Nat) (pl : Int32) (ato : Nat) (f : Nat → Int32) (k : Nat) (hk : k < 4) (hM_0 : M o = some ((1, 0), .inr (7, [.ref av, .ref asp, .ref ak, .ref aik, .ref atx, .int le, .ref am, .int mn, .ref aa, .int pl, .ref ato]))) (hM_1 : M av = some ((1, 1), .inl (gcs G 0, 1310, .inl f))) : Met l yX8_overloads (ws_ yX8_overloads cX8_overloads 2 (some .int)) ({ frames := 3, cells := 0, slots := 0, locals := 64 }) (gPc G [.ref o, .int (nI k)] M) (gQi G (fun r9 M9 k9 => r9 = (f (256 * k + 13)) ∧ M9 = M ∧ k9 = 0)) 0 0 (gA G) := by
  refine gMet [(0, .ref o), (1, .int (nI k))] (by decide) (Nat.le_of_ble_eq_true rfl) rfl ?_
  intro p e s m below meth c hC
  refine g_aload_n hC dX8_overloads_0 0 rfl gRef_r 1 rfl ?_
  refine g_iload_n hC dX8_overloads_1 1 rfl 2 rfl ?_
  refine g_bipush hC dX8_overloads_2 kb_13 4 rfl ?_
  refine g_calliP (g_V (As := [.int (nI k), .int 13]) (rest := []) hC mvX8_of q3207 (gOf.of hC.K cI7 hM_0) (met_T_of l G M o av asp ak aik atx le am mn aa pl ato f k 13 hk (by first | assumption | decide | omega | simp_all) hM_0 hM_1) ⟨rfl, rfl⟩ ⟨(Nat.le_of_ble_eq_true rfl), (Nat.le_of_ble_eq_true rfl)⟩ rfl (Nat.le_of_ble_eq_true rfl) dX8_overloads_4 rfl ⟨(Nat.le_of_ble_eq_true rfl), (Nat.le_of_ble_eq_true rfl)⟩) 7 rfl 0 (Nat.le_of_ble_eq_true rfl) ?_
  exact g_iret (v := f (256 * k + 13)) hC (fun k9 hk9 => ⟨rfl, rfl, Nat.le_zero.mp hk9⟩) dX8_overloads_7 (Nat.le_of_ble_eq_true rfl) (Nat.le_of_ble_eq_true rfl)
set_option maxHeartbeats 4000000 in
theorem met_T_sent_n (l : Launch) (G : gG) (M : gM) (o : Nat) (av : Nat) (asp : Nat) (ak : Nat) (aik : Nat) (atx : Nat) (le : Int32) (am : Nat) (mn : Int32) (aa : Nat) (pl : Int32) (ato : Nat) (f : Nat → Int32) (x : Int32) (hx : ¬ (0 ≤ x ∧ x ≤ 3)) (hM_0 : M o = some ((1, 0), .inr (7, [.ref av, .ref asp, .ref ak, .ref aik, .ref atx, .int le, .ref am, .int mn, .ref aa, .int pl, .ref ato]))) (hM_1 : M av = some ((1, 1), .inl (gcs G 0, 1310, .inl f))) : Met l yX8_sent (ws_ yX8_sent cX8_sent 2 (some .int)) ({ frames := 3, cells := 0, slots := 0, locals := 64 }) (gPc G [.ref o, .int x] M) (gQi G (fun r9 M9 k9 => r9 = (-1) ∧ M9 = M ∧ k9 = 0)) 0 0 (gA G) := by
  refine gMet [(0, .ref o), (1, .int x)] (by decide) (Nat.le_of_ble_eq_true rfl) rfl ?_
  intro p e s m below meth c hC
  refine g_aload_n hC dX8_sent_0 0 rfl gRef_r 1 rfl ?_
  refine g_iload_n hC dX8_sent_1 1 rfl 2 rfl ?_
  refine g_bipush hC dX8_sent_2 kb_14 4 rfl ?_
  refine g_calliP (g_V (As := [.int x, .int 14]) (rest := []) hC mvX8_of q3207 (gOf.of hC.K cI7 hM_0) (met_T_of_n l G M o av asp ak aik atx le am mn aa pl ato f x 14 hx hM_0 hM_1) ⟨rfl, rfl⟩ ⟨(Nat.le_of_ble_eq_true rfl), (Nat.le_of_ble_eq_true rfl)⟩ rfl (Nat.le_of_ble_eq_true rfl) dX8_sent_4 rfl ⟨(Nat.le_of_ble_eq_true rfl), (Nat.le_of_ble_eq_true rfl)⟩) 7 rfl 0 (Nat.le_of_ble_eq_true rfl) ?_
  exact g_iret (v := -1) hC (fun k9 hk9 => ⟨rfl, rfl, Nat.le_zero.mp hk9⟩) dX8_sent_7 (Nat.le_of_ble_eq_true rfl) (Nat.le_of_ble_eq_true rfl)
set_option maxHeartbeats 4000000 in
theorem met_T_sent (l : Launch) (G : gG) (M : gM) (o : Nat) (av : Nat) (asp : Nat) (ak : Nat) (aik : Nat) (atx : Nat) (le : Int32) (am : Nat) (mn : Int32) (aa : Nat) (pl : Int32) (ato : Nat) (f : Nat → Int32) (k : Nat) (hk : k < 4) (hM_0 : M o = some ((1, 0), .inr (7, [.ref av, .ref asp, .ref ak, .ref aik, .ref atx, .int le, .ref am, .int mn, .ref aa, .int pl, .ref ato]))) (hM_1 : M av = some ((1, 1), .inl (gcs G 0, 1310, .inl f))) : Met l yX8_sent (ws_ yX8_sent cX8_sent 2 (some .int)) ({ frames := 3, cells := 0, slots := 0, locals := 64 }) (gPc G [.ref o, .int (nI k)] M) (gQi G (fun r9 M9 k9 => r9 = (f (256 * k + 14)) ∧ M9 = M ∧ k9 = 0)) 0 0 (gA G) := by
  refine gMet [(0, .ref o), (1, .int (nI k))] (by decide) (Nat.le_of_ble_eq_true rfl) rfl ?_
  intro p e s m below meth c hC
  refine g_aload_n hC dX8_sent_0 0 rfl gRef_r 1 rfl ?_
  refine g_iload_n hC dX8_sent_1 1 rfl 2 rfl ?_
  refine g_bipush hC dX8_sent_2 kb_14 4 rfl ?_
  refine g_calliP (g_V (As := [.int (nI k), .int 14]) (rest := []) hC mvX8_of q3207 (gOf.of hC.K cI7 hM_0) (met_T_of l G M o av asp ak aik atx le am mn aa pl ato f k 14 hk (by first | assumption | decide | omega | simp_all) hM_0 hM_1) ⟨rfl, rfl⟩ ⟨(Nat.le_of_ble_eq_true rfl), (Nat.le_of_ble_eq_true rfl)⟩ rfl (Nat.le_of_ble_eq_true rfl) dX8_sent_4 rfl ⟨(Nat.le_of_ble_eq_true rfl), (Nat.le_of_ble_eq_true rfl)⟩) 7 rfl 0 (Nat.le_of_ble_eq_true rfl) ?_
  exact g_iret (v := f (256 * k + 14)) hC (fun k9 hk9 => ⟨rfl, rfl, Nat.le_zero.mp hk9⟩) dX8_sent_7 (Nat.le_of_ble_eq_true rfl) (Nat.le_of_ble_eq_true rfl)
set_option maxHeartbeats 4000000 in
theorem met_T_overruns_n (l : Launch) (G : gG) (M : gM) (o : Nat) (av : Nat) (asp : Nat) (ak : Nat) (aik : Nat) (atx : Nat) (le : Int32) (am : Nat) (mn : Int32) (aa : Nat) (pl : Int32) (ato : Nat) (f : Nat → Int32) (x : Int32) (hx : ¬ (0 ≤ x ∧ x ≤ 3)) (hM_0 : M o = some ((1, 0), .inr (7, [.ref av, .ref asp, .ref ak, .ref aik, .ref atx, .int le, .ref am, .int mn, .ref aa, .int pl, .ref ato]))) (hM_1 : M av = some ((1, 1), .inl (gcs G 0, 1310, .inl f))) : Met l yX8_overruns (ws_ yX8_overruns cX8_overruns 2 (some .int)) ({ frames := 3, cells := 0, slots := 0, locals := 64 }) (gPc G [.ref o, .int x] M) (gQi G (fun r9 M9 k9 => r9 = (-1) ∧ M9 = M ∧ k9 = 0)) 0 0 (gA G) := by
  refine gMet [(0, .ref o), (1, .int x)] (by decide) (Nat.le_of_ble_eq_true rfl) rfl ?_
  intro p e s m below meth c hC
  refine g_aload_n hC dX8_overruns_0 0 rfl gRef_r 1 rfl ?_
  refine g_iload_n hC dX8_overruns_1 1 rfl 2 rfl ?_
  refine g_bipush hC dX8_overruns_2 kb_15 4 rfl ?_
  refine g_calliP (g_V (As := [.int x, .int 15]) (rest := []) hC mvX8_of q3207 (gOf.of hC.K cI7 hM_0) (met_T_of_n l G M o av asp ak aik atx le am mn aa pl ato f x 15 hx hM_0 hM_1) ⟨rfl, rfl⟩ ⟨(Nat.le_of_ble_eq_true rfl), (Nat.le_of_ble_eq_true rfl)⟩ rfl (Nat.le_of_ble_eq_true rfl) dX8_overruns_4 rfl ⟨(Nat.le_of_ble_eq_true rfl), (Nat.le_of_ble_eq_true rfl)⟩) 7 rfl 0 (Nat.le_of_ble_eq_true rfl) ?_
  exact g_iret (v := -1) hC (fun k9 hk9 => ⟨rfl, rfl, Nat.le_zero.mp hk9⟩) dX8_overruns_7 (Nat.le_of_ble_eq_true rfl) (Nat.le_of_ble_eq_true rfl)
set_option maxHeartbeats 4000000 in
theorem met_T_overruns (l : Launch) (G : gG) (M : gM) (o : Nat) (av : Nat) (asp : Nat) (ak : Nat) (aik : Nat) (atx : Nat) (le : Int32) (am : Nat) (mn : Int32) (aa : Nat) (pl : Int32) (ato : Nat) (f : Nat → Int32) (k : Nat) (hk : k < 4) (hM_0 : M o = some ((1, 0), .inr (7, [.ref av, .ref asp, .ref ak, .ref aik, .ref atx, .int le, .ref am, .int mn, .ref aa, .int pl, .ref ato]))) (hM_1 : M av = some ((1, 1), .inl (gcs G 0, 1310, .inl f))) : Met l yX8_overruns (ws_ yX8_overruns cX8_overruns 2 (some .int)) ({ frames := 3, cells := 0, slots := 0, locals := 64 }) (gPc G [.ref o, .int (nI k)] M) (gQi G (fun r9 M9 k9 => r9 = (f (256 * k + 15)) ∧ M9 = M ∧ k9 = 0)) 0 0 (gA G) := by
  refine gMet [(0, .ref o), (1, .int (nI k))] (by decide) (Nat.le_of_ble_eq_true rfl) rfl ?_
  intro p e s m below meth c hC
  refine g_aload_n hC dX8_overruns_0 0 rfl gRef_r 1 rfl ?_
  refine g_iload_n hC dX8_overruns_1 1 rfl 2 rfl ?_
  refine g_bipush hC dX8_overruns_2 kb_15 4 rfl ?_
  refine g_calliP (g_V (As := [.int (nI k), .int 15]) (rest := []) hC mvX8_of q3207 (gOf.of hC.K cI7 hM_0) (met_T_of l G M o av asp ak aik atx le am mn aa pl ato f k 15 hk (by first | assumption | decide | omega | simp_all) hM_0 hM_1) ⟨rfl, rfl⟩ ⟨(Nat.le_of_ble_eq_true rfl), (Nat.le_of_ble_eq_true rfl)⟩ rfl (Nat.le_of_ble_eq_true rfl) dX8_overruns_4 rfl ⟨(Nat.le_of_ble_eq_true rfl), (Nat.le_of_ble_eq_true rfl)⟩) 7 rfl 0 (Nat.le_of_ble_eq_true rfl) ?_
  exact g_iret (v := f (256 * k + 15)) hC (fun k9 hk9 => ⟨rfl, rfl, Nat.le_zero.mp hk9⟩) dX8_overruns_7 (Nat.le_of_ble_eq_true rfl) (Nat.le_of_ble_eq_true rfl)
set_option maxHeartbeats 4000000 in
theorem met_T_waiting_n (l : Launch) (G : gG) (M : gM) (o : Nat) (av : Nat) (asp : Nat) (ak : Nat) (aik : Nat) (atx : Nat) (le : Int32) (am : Nat) (mn : Int32) (aa : Nat) (pl : Int32) (ato : Nat) (f : Nat → Int32) (x : Int32) (hx : ¬ (0 ≤ x ∧ x ≤ 3)) (hM_0 : M o = some ((1, 0), .inr (7, [.ref av, .ref asp, .ref ak, .ref aik, .ref atx, .int le, .ref am, .int mn, .ref aa, .int pl, .ref ato]))) (hM_1 : M av = some ((1, 1), .inl (gcs G 0, 1310, .inl f))) : Met l yX8_waiting (ws_ yX8_waiting cX8_waiting 2 (some .int)) ({ frames := 3, cells := 0, slots := 0, locals := 64 }) (gPc G [.ref o, .int x] M) (gQi G (fun r9 M9 k9 => r9 = (-1) ∧ M9 = M ∧ k9 = 0)) 0 0 (gA G) := by
  refine gMet [(0, .ref o), (1, .int x)] (by decide) (Nat.le_of_ble_eq_true rfl) rfl ?_
  intro p e s m below meth c hC
  refine g_aload_n hC dX8_waiting_0 0 rfl gRef_r 1 rfl ?_
  refine g_iload_n hC dX8_waiting_1 1 rfl 2 rfl ?_
  refine g_bipush hC dX8_waiting_2 kb_23 4 rfl ?_
  refine g_calliP (g_V (As := [.int x, .int 23]) (rest := []) hC mvX8_of q3207 (gOf.of hC.K cI7 hM_0) (met_T_of_n l G M o av asp ak aik atx le am mn aa pl ato f x 23 hx hM_0 hM_1) ⟨rfl, rfl⟩ ⟨(Nat.le_of_ble_eq_true rfl), (Nat.le_of_ble_eq_true rfl)⟩ rfl (Nat.le_of_ble_eq_true rfl) dX8_waiting_4 rfl ⟨(Nat.le_of_ble_eq_true rfl), (Nat.le_of_ble_eq_true rfl)⟩) 7 rfl 0 (Nat.le_of_ble_eq_true rfl) ?_
  exact g_iret (v := -1) hC (fun k9 hk9 => ⟨rfl, rfl, Nat.le_zero.mp hk9⟩) dX8_waiting_7 (Nat.le_of_ble_eq_true rfl) (Nat.le_of_ble_eq_true rfl)
set_option maxHeartbeats 4000000 in
theorem met_T_waiting (l : Launch) (G : gG) (M : gM) (o : Nat) (av : Nat) (asp : Nat) (ak : Nat) (aik : Nat) (atx : Nat) (le : Int32) (am : Nat) (mn : Int32) (aa : Nat) (pl : Int32) (ato : Nat) (f : Nat → Int32) (k : Nat) (hk : k < 4) (hM_0 : M o = some ((1, 0), .inr (7, [.ref av, .ref asp, .ref ak, .ref aik, .ref atx, .int le, .ref am, .int mn, .ref aa, .int pl, .ref ato]))) (hM_1 : M av = some ((1, 1), .inl (gcs G 0, 1310, .inl f))) : Met l yX8_waiting (ws_ yX8_waiting cX8_waiting 2 (some .int)) ({ frames := 3, cells := 0, slots := 0, locals := 64 }) (gPc G [.ref o, .int (nI k)] M) (gQi G (fun r9 M9 k9 => r9 = (f (256 * k + 23)) ∧ M9 = M ∧ k9 = 0)) 0 0 (gA G) := by
  refine gMet [(0, .ref o), (1, .int (nI k))] (by decide) (Nat.le_of_ble_eq_true rfl) rfl ?_
  intro p e s m below meth c hC
  refine g_aload_n hC dX8_waiting_0 0 rfl gRef_r 1 rfl ?_
  refine g_iload_n hC dX8_waiting_1 1 rfl 2 rfl ?_
  refine g_bipush hC dX8_waiting_2 kb_23 4 rfl ?_
  refine g_calliP (g_V (As := [.int (nI k), .int 23]) (rest := []) hC mvX8_of q3207 (gOf.of hC.K cI7 hM_0) (met_T_of l G M o av asp ak aik atx le am mn aa pl ato f k 23 hk (by first | assumption | decide | omega | simp_all) hM_0 hM_1) ⟨rfl, rfl⟩ ⟨(Nat.le_of_ble_eq_true rfl), (Nat.le_of_ble_eq_true rfl)⟩ rfl (Nat.le_of_ble_eq_true rfl) dX8_waiting_4 rfl ⟨(Nat.le_of_ble_eq_true rfl), (Nat.le_of_ble_eq_true rfl)⟩) 7 rfl 0 (Nat.le_of_ble_eq_true rfl) ?_
  exact g_iret (v := f (256 * k + 23)) hC (fun k9 hk9 => ⟨rfl, rfl, Nat.le_zero.mp hk9⟩) dX8_waiting_7 (Nat.le_of_ble_eq_true rfl) (Nat.le_of_ble_eq_true rfl)
set_option maxHeartbeats 4000000 in
theorem met_T_received_n (l : Launch) (G : gG) (M : gM) (o : Nat) (av : Nat) (asp : Nat) (ak : Nat) (aik : Nat) (atx : Nat) (le : Int32) (am : Nat) (mn : Int32) (aa : Nat) (pl : Int32) (ato : Nat) (f : Nat → Int32) (x : Int32) (hx : ¬ (0 ≤ x ∧ x ≤ 3)) (hM_0 : M o = some ((1, 0), .inr (7, [.ref av, .ref asp, .ref ak, .ref aik, .ref atx, .int le, .ref am, .int mn, .ref aa, .int pl, .ref ato]))) (hM_1 : M av = some ((1, 1), .inl (gcs G 0, 1310, .inl f))) : Met l yX8_received (ws_ yX8_received cX8_received 2 (some .int)) ({ frames := 3, cells := 0, slots := 0, locals := 64 }) (gPc G [.ref o, .int x] M) (gQi G (fun r9 M9 k9 => r9 = (-1) ∧ M9 = M ∧ k9 = 0)) 0 0 (gA G) := by
  refine gMet [(0, .ref o), (1, .int x)] (by decide) (Nat.le_of_ble_eq_true rfl) rfl ?_
  intro p e s m below meth c hC
  refine g_aload_n hC dX8_received_0 0 rfl gRef_r 1 rfl ?_
  refine g_iload_n hC dX8_received_1 1 rfl 2 rfl ?_
  refine g_bipush hC dX8_received_2 kb_24 4 rfl ?_
  refine g_calliP (g_V (As := [.int x, .int 24]) (rest := []) hC mvX8_of q3207 (gOf.of hC.K cI7 hM_0) (met_T_of_n l G M o av asp ak aik atx le am mn aa pl ato f x 24 hx hM_0 hM_1) ⟨rfl, rfl⟩ ⟨(Nat.le_of_ble_eq_true rfl), (Nat.le_of_ble_eq_true rfl)⟩ rfl (Nat.le_of_ble_eq_true rfl) dX8_received_4 rfl ⟨(Nat.le_of_ble_eq_true rfl), (Nat.le_of_ble_eq_true rfl)⟩) 7 rfl 0 (Nat.le_of_ble_eq_true rfl) ?_
  exact g_iret (v := -1) hC (fun k9 hk9 => ⟨rfl, rfl, Nat.le_zero.mp hk9⟩) dX8_received_7 (Nat.le_of_ble_eq_true rfl) (Nat.le_of_ble_eq_true rfl)
set_option maxHeartbeats 4000000 in
theorem met_T_received (l : Launch) (G : gG) (M : gM) (o : Nat) (av : Nat) (asp : Nat) (ak : Nat) (aik : Nat) (atx : Nat) (le : Int32) (am : Nat) (mn : Int32) (aa : Nat) (pl : Int32) (ato : Nat) (f : Nat → Int32) (k : Nat) (hk : k < 4) (hM_0 : M o = some ((1, 0), .inr (7, [.ref av, .ref asp, .ref ak, .ref aik, .ref atx, .int le, .ref am, .int mn, .ref aa, .int pl, .ref ato]))) (hM_1 : M av = some ((1, 1), .inl (gcs G 0, 1310, .inl f))) : Met l yX8_received (ws_ yX8_received cX8_received 2 (some .int)) ({ frames := 3, cells := 0, slots := 0, locals := 64 }) (gPc G [.ref o, .int (nI k)] M) (gQi G (fun r9 M9 k9 => r9 = (f (256 * k + 24)) ∧ M9 = M ∧ k9 = 0)) 0 0 (gA G) := by
  refine gMet [(0, .ref o), (1, .int (nI k))] (by decide) (Nat.le_of_ble_eq_true rfl) rfl ?_
  intro p e s m below meth c hC
  refine g_aload_n hC dX8_received_0 0 rfl gRef_r 1 rfl ?_
  refine g_iload_n hC dX8_received_1 1 rfl 2 rfl ?_
  refine g_bipush hC dX8_received_2 kb_24 4 rfl ?_
  refine g_calliP (g_V (As := [.int (nI k), .int 24]) (rest := []) hC mvX8_of q3207 (gOf.of hC.K cI7 hM_0) (met_T_of l G M o av asp ak aik atx le am mn aa pl ato f k 24 hk (by first | assumption | decide | omega | simp_all) hM_0 hM_1) ⟨rfl, rfl⟩ ⟨(Nat.le_of_ble_eq_true rfl), (Nat.le_of_ble_eq_true rfl)⟩ rfl (Nat.le_of_ble_eq_true rfl) dX8_received_4 rfl ⟨(Nat.le_of_ble_eq_true rfl), (Nat.le_of_ble_eq_true rfl)⟩) 7 rfl 0 (Nat.le_of_ble_eq_true rfl) ?_
  exact g_iret (v := f (256 * k + 24)) hC (fun k9 hk9 => ⟨rfl, rfl, Nat.le_zero.mp hk9⟩) dX8_received_7 (Nat.le_of_ble_eq_true rfl) (Nat.le_of_ble_eq_true rfl)
set_option maxHeartbeats 4000000 in
theorem met_T_isPassive_n (l : Launch) (G : gG) (M : gM) (o : Nat) (av : Nat) (asp : Nat) (ak : Nat) (aik : Nat) (atx : Nat) (le : Int32) (am : Nat) (mn : Int32) (aa : Nat) (pl : Int32) (ato : Nat) (f : Nat → Int32) (x : Int32) (hx : ¬ (0 ≤ x ∧ x ≤ 3)) (hM_0 : M o = some ((1, 0), .inr (7, [.ref av, .ref asp, .ref ak, .ref aik, .ref atx, .int le, .ref am, .int mn, .ref aa, .int pl, .ref ato]))) (hM_1 : M av = some ((1, 1), .inl (gcs G 0, 1310, .inl f))) : Met l yX8_isPassive (ws_ yX8_isPassive cX8_isPassive 2 (some .int)) ({ frames := 2, cells := 0, slots := 0, locals := 42 }) (gPc G [.ref o, .int x] M) (gQi G (fun r9 M9 k9 => r9 = (-1) ∧ M9 = M ∧ k9 = 0)) 0 0 (gA G) := by
  refine gMet [(0, .ref o), (1, .int x)] (by decide) (Nat.le_of_ble_eq_true rfl) rfl ?_
  intro p e s m below meth c hC
  refine g_iload_n hC dX8_isPassive_0 1 rfl 1 rfl ?_
  refine g_calliP (g_S (As := [.int x]) (rest := []) hC msX8_isNode q3023 (met_T_isNode l G M x) ⟨rfl, rfl⟩ ⟨(Nat.le_of_ble_eq_true rfl), (Nat.le_of_ble_eq_true rfl)⟩ rfl (Nat.le_of_ble_eq_true rfl) dX8_isPassive_1 rfl ⟨(Nat.le_of_ble_eq_true rfl), (Nat.le_of_ble_eq_true rfl)⟩) 4 rfl 0 (Nat.le_of_ble_eq_true rfl) ?_
  refine g_if_ne hC dX8_isPassive_4 11 rfl 7 rfl (fun c_1 => ?_) (fun c_1 => ?_)
  · replace c_1 := bId_1 c_1
    exact absurd c_1 hx
  · replace c_1 := bId_0 c_1
    refine g_iconst hC dX8_isPassive_7 ki_m1 8 rfl ?_
    refine g_goto hC dX8_isPassive_8 24 rfl ?_
    exact g_iret (v := -1) hC (fun k9 hk9 => ⟨rfl, rfl, Nat.le_zero.mp hk9⟩) dX8_isPassive_24 (Nat.le_of_ble_eq_true rfl) (Nat.le_of_ble_eq_true rfl)
set_option maxHeartbeats 4000000 in
theorem met_T_isPassive (l : Launch) (G : gG) (M : gM) (o : Nat) (av : Nat) (asp : Nat) (ak : Nat) (aik : Nat) (atx : Nat) (le : Int32) (am : Nat) (mn : Int32) (aa : Nat) (pl : Int32) (ato : Nat) (f : Nat → Int32) (k : Nat) (hk : k < 4) (hM_0 : M o = some ((1, 0), .inr (7, [.ref av, .ref asp, .ref ak, .ref aik, .ref atx, .int le, .ref am, .int mn, .ref aa, .int pl, .ref ato]))) (hM_1 : M av = some ((1, 1), .inl (gcs G 0, 1310, .inl f))) : Met l yX8_isPassive (ws_ yX8_isPassive cX8_isPassive 2 (some .int)) ({ frames := 2, cells := 0, slots := 0, locals := 42 }) (gPc G [.ref o, .int (nI k)] M) (gQi G (fun r9 M9 k9 => r9 = (bI (decide (f 1025 ≤ f (256 * k + 4) ∨ f 1025 ≤ f (256 * k + 5)))) ∧ M9 = M ∧ k9 = 0)) 0 0 (gA G) := by
  refine gMet [(0, .ref o), (1, .int (nI k))] (by decide) (Nat.le_of_ble_eq_true rfl) rfl ?_
  intro p e s m below meth c hC
  refine g_iload_n hC dX8_isPassive_0 1 rfl 1 rfl ?_
  refine g_calliP (g_S (As := [.int (nI k)]) (rest := []) hC msX8_isNode q3023 (met_T_isNode l G M (nI k)) ⟨rfl, rfl⟩ ⟨(Nat.le_of_ble_eq_true rfl), (Nat.le_of_ble_eq_true rfl)⟩ rfl (Nat.le_of_ble_eq_true rfl) dX8_isPassive_1 rfl ⟨(Nat.le_of_ble_eq_true rfl), (Nat.le_of_ble_eq_true rfl)⟩) 4 rfl 0 (Nat.le_of_ble_eq_true rfl) ?_
  refine g_if_ne hC dX8_isPassive_4 11 rfl 7 rfl (fun c_1 => ?_) (fun c_1 => ?_)
  · replace c_1 := bId_1 c_1
    refine g_aload_n hC dX8_isPassive_11 0 rfl gRef_r 12 rfl ?_
    refine g_iload_n hC dX8_isPassive_12 1 rfl 13 rfl ?_
    refine g_calliP (g_V (As := [.int (nI k)]) (rest := []) hC mvX8_isPassiveNow q3148 (gOf.of hC.K cI7 hM_0) (met_T_isPassiveNow l G M o av asp ak aik atx le am mn aa pl ato f k hk hM_0 hM_1) ⟨rfl, rfl⟩ ⟨(Nat.le_of_ble_eq_true rfl), (Nat.le_of_ble_eq_true rfl)⟩ rfl (Nat.le_of_ble_eq_true rfl) dX8_isPassive_13 rfl ⟨(Nat.le_of_ble_eq_true rfl), (Nat.le_of_ble_eq_true rfl)⟩) 16 rfl 0 (Nat.le_of_ble_eq_true rfl) ?_
    refine g_if_eq hC dX8_isPassive_16 23 rfl 19 rfl (fun c_2 => ?_) (fun c_2 => ?_)
    · replace c_2 := bId_0 c_2
      refine g_iconst hC dX8_isPassive_23 ki_0 24 rfl ?_
      exact g_iret (v := 0) hC (fun k9 hk9 => ⟨(bI_nd (by first | (simp_all [Int32.not_lt]; done) | grind)), rfl, Nat.le_zero.mp hk9⟩) dX8_isPassive_24 (Nat.le_of_ble_eq_true rfl) (Nat.le_of_ble_eq_true rfl)
    · replace c_2 := bId_1 c_2
      refine g_iconst hC dX8_isPassive_19 ki_1 20 rfl ?_
      refine g_goto hC dX8_isPassive_20 24 rfl ?_
      exact g_iret (v := 1) hC (fun k9 hk9 => ⟨(bI_d (by first | (simp_all [Int32.not_lt]; done) | grind)), rfl, Nat.le_zero.mp hk9⟩) dX8_isPassive_24 (Nat.le_of_ble_eq_true rfl) (Nat.le_of_ble_eq_true rfl)
  · replace c_1 := bId_0 c_1
    exact absurd (nk_in hk) c_1
def T_last (f : Nat → Int32) (k : Nat) : Int32 := if f (256 * k + 11) = 0 then -5 else f (256 * k + 11)
set_option maxHeartbeats 4000000 in
theorem met_T_lastOf (l : Launch) (G : gG) (M : gM) (o : Nat) (av : Nat) (asp : Nat) (ak : Nat) (aik : Nat) (atx : Nat) (le : Int32) (am : Nat) (mn : Int32) (aa : Nat) (pl : Int32) (ato : Nat) (f : Nat → Int32) (k : Nat) (hk : k < 4) (hM_0 : M o = some ((1, 0), .inr (7, [.ref av, .ref asp, .ref ak, .ref aik, .ref atx, .int le, .ref am, .int mn, .ref aa, .int pl, .ref ato]))) (hM_1 : M av = some ((1, 1), .inl (gcs G 0, 1310, .inl f))) : Met l yX8_lastOf (ws_ yX8_lastOf cX8_lastOf 2 (some .int)) ({ frames := 1, cells := 0, slots := 0, locals := 21 }) (gPc G [.ref o, .int (nI k)] M) (gQi G (fun r9 M9 k9 => r9 = (T_last f k) ∧ M9 = M ∧ k9 = 0)) 0 0 (gA G) := by
  refine gMet [(0, .ref o), (1, .int (nI k))] (by decide) (Nat.le_of_ble_eq_true rfl) rfl ?_
  intro p e s m below meth c hC
  refine g_aload_n hC dX8_lastOf_0 0 rfl gRef_r 1 rfl ?_
  refine g_get (v := .ref av) hC cI7 hM_0 0 (Nat.le_of_ble_eq_true rfl) q2942 rfl dX8_lastOf_1 4 rfl ?_
  refine g_iload_n hC dX8_lastOf_4 1 rfl 5 rfl ?_
  refine g_bipush hC dX8_lastOf_5 kb_11 7 rfl ?_
  refine g_calliP (g_S (As := [.int (nI k), .int 11]) (rest := [.ref av]) hC msX8_at q2939 (met_T_at l G M k 11) ⟨rfl, rfl⟩ ⟨(Nat.le_of_ble_eq_true rfl), (Nat.le_of_ble_eq_true rfl)⟩ rfl (Nat.le_of_ble_eq_true rfl) dX8_lastOf_7 rfl ⟨(Nat.le_of_ble_eq_true rfl), (Nat.le_of_ble_eq_true rfl)⟩) 10 rfl 0 (Nat.le_of_ble_eq_true rfl) ?_
  refine g_iald (v := f (256 * k + 11)) hC hM_1 0 rfl (vp_in_nI (by omega) (by omega)) ((congrArg f (nI_clamp (by omega))).trans rfl) dX8_lastOf_10 11 rfl ?_
  refine g_if_ne hC dX8_lastOf_11 19 rfl 14 rfl (fun c_1 => ?_) (fun c_1 => ?_)
  · refine g_aload_n hC dX8_lastOf_19 0 rfl gRef_r 20 rfl ?_
    refine g_get (v := .ref av) hC cI7 hM_0 0 (Nat.le_of_ble_eq_true rfl) q2942 rfl dX8_lastOf_20 23 rfl ?_
    refine g_iload_n hC dX8_lastOf_23 1 rfl 24 rfl ?_
    refine g_bipush hC dX8_lastOf_24 kb_11 26 rfl ?_
    refine g_calliP (g_S (As := [.int (nI k), .int 11]) (rest := [.ref av]) hC msX8_at q2939 (met_T_at l G M k 11) ⟨rfl, rfl⟩ ⟨(Nat.le_of_ble_eq_true rfl), (Nat.le_of_ble_eq_true rfl)⟩ rfl (Nat.le_of_ble_eq_true rfl) dX8_lastOf_26 rfl ⟨(Nat.le_of_ble_eq_true rfl), (Nat.le_of_ble_eq_true rfl)⟩) 29 rfl 0 (Nat.le_of_ble_eq_true rfl) ?_
    refine g_iald (v := f (256 * k + 11)) hC hM_1 0 rfl (vp_in_nI (by omega) (by omega)) ((congrArg f (nI_clamp (by omega))).trans rfl) dX8_lastOf_29 30 rfl ?_
    exact g_iret (v := f (256 * k + 11)) hC (fun k9 hk9 => ⟨(by first | rfl | (simp only [T_last, eq_false c_1, if_true, if_false, true_and, and_true, false_and, and_false, true_or, or_true, false_or, or_false, not_true_eq_false, not_false_eq_true, reduceIte, decide_true, decide_false, Bool.false_eq_true]; done) | (simp only [T_last, eq_false c_1, if_true, if_false, true_and, and_true, false_and, and_false, true_or, or_true, false_or, or_false, not_true_eq_false, not_false_eq_true, reduceIte, decide_true, decide_false, Bool.false_eq_true]; rfl) | (simp only [T_last, c_1, if_true, if_false, true_and, and_true, false_and, and_false, true_or, or_true, false_or, or_false, not_true_eq_false, not_false_eq_true, reduceIte, decide_true, decide_false, Bool.false_eq_true]; done) | (simp only [T_last]; simp only [if_true, if_false, true_and, and_true, false_and, and_false, true_or, or_true, false_or, or_false, not_true_eq_false, not_false_eq_true, reduceIte, decide_true, decide_false, Bool.false_eq_true, eq_false c_1]; done) | (simp only [T_last]; simp only [if_true, if_false, true_and, and_true, false_and, and_false, true_or, or_true, false_or, or_false, not_true_eq_false, not_false_eq_true, reduceIte, decide_true, decide_false, Bool.false_eq_true, c_1]; done) | (simp only [T_last]; simp only [if_true, if_false, true_and, and_true, false_and, and_false, true_or, or_true, false_or, or_false, not_true_eq_false, not_false_eq_true, reduceIte, decide_true, decide_false, Bool.false_eq_true, c_1]; simp only [T_last]; done) | (simp only [T_last, c_1, if_true, if_false, true_and, and_true, false_and, and_false, true_or, or_true, false_or, or_false, not_true_eq_false, not_false_eq_true, reduceIte, decide_true, decide_false, Bool.false_eq_true]; rfl) | (simp only [T_last]; simp only [if_true, if_false, true_and, and_true, false_and, and_false, true_or, or_true, false_or, or_false, not_true_eq_false, not_false_eq_true, reduceIte, decide_true, decide_false, Bool.false_eq_true, c_1]; rfl) | (simp only [T_last]; rfl) | (simp only [T_last, c_1, if_true, if_false, true_and, and_true, false_and, and_false, true_or, or_true, false_or, or_false, not_true_eq_false, not_false_eq_true, reduceIte, decide_true, decide_false, Bool.false_eq_true]; rfl) | (simp_all [T_last]; done)), rfl, Nat.le_zero.mp hk9⟩) dX8_lastOf_30 (Nat.le_of_ble_eq_true rfl) (Nat.le_of_ble_eq_true rfl)
  · refine g_bipush hC dX8_lastOf_14 kb_m5 16 rfl ?_
    refine g_goto hC dX8_lastOf_16 30 rfl ?_
    exact g_iret (v := -5) hC (fun k9 hk9 => ⟨(by first | rfl | (simp only [T_last, eq_true c_1, if_true, if_false, true_and, and_true, false_and, and_false, true_or, or_true, false_or, or_false, not_true_eq_false, not_false_eq_true, reduceIte, decide_true, decide_false, Bool.false_eq_true]; done) | (simp only [T_last, eq_true c_1, if_true, if_false, true_and, and_true, false_and, and_false, true_or, or_true, false_or, or_false, not_true_eq_false, not_false_eq_true, reduceIte, decide_true, decide_false, Bool.false_eq_true]; rfl) | (simp only [T_last, c_1, if_true, if_false, true_and, and_true, false_and, and_false, true_or, or_true, false_or, or_false, not_true_eq_false, not_false_eq_true, reduceIte, decide_true, decide_false, Bool.false_eq_true]; done) | (simp only [T_last]; simp only [if_true, if_false, true_and, and_true, false_and, and_false, true_or, or_true, false_or, or_false, not_true_eq_false, not_false_eq_true, reduceIte, decide_true, decide_false, Bool.false_eq_true, eq_true c_1]; done) | (simp only [T_last]; simp only [if_true, if_false, true_and, and_true, false_and, and_false, true_or, or_true, false_or, or_false, not_true_eq_false, not_false_eq_true, reduceIte, decide_true, decide_false, Bool.false_eq_true, c_1]; done) | (simp only [T_last]; simp only [if_true, if_false, true_and, and_true, false_and, and_false, true_or, or_true, false_or, or_false, not_true_eq_false, not_false_eq_true, reduceIte, decide_true, decide_false, Bool.false_eq_true, c_1]; simp only [T_last]; done) | (simp only [T_last, c_1, if_true, if_false, true_and, and_true, false_and, and_false, true_or, or_true, false_or, or_false, not_true_eq_false, not_false_eq_true, reduceIte, decide_true, decide_false, Bool.false_eq_true]; rfl) | (simp only [T_last]; simp only [if_true, if_false, true_and, and_true, false_and, and_false, true_or, or_true, false_or, or_false, not_true_eq_false, not_false_eq_true, reduceIte, decide_true, decide_false, Bool.false_eq_true, c_1]; rfl) | (simp only [T_last]; rfl) | (simp only [T_last, c_1, if_true, if_false, true_and, and_true, false_and, and_false, true_or, or_true, false_or, or_false, not_true_eq_false, not_false_eq_true, reduceIte, decide_true, decide_false, Bool.false_eq_true]; rfl) | (simp_all [T_last]; done)), rfl, Nat.le_zero.mp hk9⟩) dX8_lastOf_30 (Nat.le_of_ble_eq_true rfl) (Nat.le_of_ble_eq_true rfl)
set_option maxHeartbeats 4000000 in
theorem met_T_lastError_n (l : Launch) (G : gG) (M : gM) (o : Nat) (av : Nat) (asp : Nat) (ak : Nat) (aik : Nat) (atx : Nat) (le : Int32) (am : Nat) (mn : Int32) (aa : Nat) (pl : Int32) (ato : Nat) (f : Nat → Int32) (x : Int32) (hx : ¬ (0 ≤ x ∧ x ≤ 3)) (hM_0 : M o = some ((1, 0), .inr (7, [.ref av, .ref asp, .ref ak, .ref aik, .ref atx, .int le, .ref am, .int mn, .ref aa, .int pl, .ref ato]))) (hM_1 : M av = some ((1, 1), .inl (gcs G 0, 1310, .inl f))) : Met l yX8_lastError (ws_ yX8_lastError cX8_lastError 2 (some .int)) ({ frames := 2, cells := 0, slots := 0, locals := 42 }) (gPc G [.ref o, .int x] M) (gQi G (fun r9 M9 k9 => r9 = (-1) ∧ M9 = M ∧ k9 = 0)) 0 0 (gA G) := by
  refine gMet [(0, .ref o), (1, .int x)] (by decide) (Nat.le_of_ble_eq_true rfl) rfl ?_
  intro p e s m below meth c hC
  refine g_iload_n hC dX8_lastError_0 1 rfl 1 rfl ?_
  refine g_calliP (g_S (As := [.int x]) (rest := []) hC msX8_isNode q3023 (met_T_isNode l G M x) ⟨rfl, rfl⟩ ⟨(Nat.le_of_ble_eq_true rfl), (Nat.le_of_ble_eq_true rfl)⟩ rfl (Nat.le_of_ble_eq_true rfl) dX8_lastError_1 rfl ⟨(Nat.le_of_ble_eq_true rfl), (Nat.le_of_ble_eq_true rfl)⟩) 4 rfl 0 (Nat.le_of_ble_eq_true rfl) ?_
  refine g_if_eq hC dX8_lastError_4 15 rfl 7 rfl (fun c_1 => ?_) (fun c_1 => ?_)
  · replace c_1 := bId_0 c_1
    refine g_iconst hC dX8_lastError_15 ki_m1 16 rfl ?_
    exact g_iret (v := -1) hC (fun k9 hk9 => ⟨rfl, rfl, Nat.le_zero.mp hk9⟩) dX8_lastError_16 (Nat.le_of_ble_eq_true rfl) (Nat.le_of_ble_eq_true rfl)
  · replace c_1 := bId_1 c_1
    exact absurd c_1 hx
set_option maxHeartbeats 4000000 in
theorem met_T_lastError (l : Launch) (G : gG) (M : gM) (o : Nat) (av : Nat) (asp : Nat) (ak : Nat) (aik : Nat) (atx : Nat) (le : Int32) (am : Nat) (mn : Int32) (aa : Nat) (pl : Int32) (ato : Nat) (f : Nat → Int32) (k : Nat) (hk : k < 4) (hM_0 : M o = some ((1, 0), .inr (7, [.ref av, .ref asp, .ref ak, .ref aik, .ref atx, .int le, .ref am, .int mn, .ref aa, .int pl, .ref ato]))) (hM_1 : M av = some ((1, 1), .inl (gcs G 0, 1310, .inl f))) : Met l yX8_lastError (ws_ yX8_lastError cX8_lastError 2 (some .int)) ({ frames := 2, cells := 0, slots := 0, locals := 42 }) (gPc G [.ref o, .int (nI k)] M) (gQi G (fun r9 M9 k9 => r9 = (T_last f k) ∧ M9 = M ∧ k9 = 0)) 0 0 (gA G) := by
  refine gMet [(0, .ref o), (1, .int (nI k))] (by decide) (Nat.le_of_ble_eq_true rfl) rfl ?_
  intro p e s m below meth c hC
  refine g_iload_n hC dX8_lastError_0 1 rfl 1 rfl ?_
  refine g_calliP (g_S (As := [.int (nI k)]) (rest := []) hC msX8_isNode q3023 (met_T_isNode l G M (nI k)) ⟨rfl, rfl⟩ ⟨(Nat.le_of_ble_eq_true rfl), (Nat.le_of_ble_eq_true rfl)⟩ rfl (Nat.le_of_ble_eq_true rfl) dX8_lastError_1 rfl ⟨(Nat.le_of_ble_eq_true rfl), (Nat.le_of_ble_eq_true rfl)⟩) 4 rfl 0 (Nat.le_of_ble_eq_true rfl) ?_
  refine g_if_eq hC dX8_lastError_4 15 rfl 7 rfl (fun c_1 => ?_) (fun c_1 => ?_)
  · replace c_1 := bId_0 c_1
    exact absurd (nk_in hk) c_1
  · replace c_1 := bId_1 c_1
    refine g_aload_n hC dX8_lastError_7 0 rfl gRef_r 8 rfl ?_
    refine g_iload_n hC dX8_lastError_8 1 rfl 9 rfl ?_
    refine g_calliP (g_V (As := [.int (nI k)]) (rest := []) hC mvX8_lastOf q3235 (gOf.of hC.K cI7 hM_0) (met_T_lastOf l G M o av asp ak aik atx le am mn aa pl ato f k hk hM_0 hM_1) ⟨rfl, rfl⟩ ⟨(Nat.le_of_ble_eq_true rfl), (Nat.le_of_ble_eq_true rfl)⟩ rfl (Nat.le_of_ble_eq_true rfl) dX8_lastError_9 rfl ⟨(Nat.le_of_ble_eq_true rfl), (Nat.le_of_ble_eq_true rfl)⟩) 12 rfl 0 (Nat.le_of_ble_eq_true rfl) ?_
    refine g_goto hC dX8_lastError_12 16 rfl ?_
    exact g_iret (v := T_last f k) hC (fun k9 hk9 => ⟨rfl, rfl, Nat.le_zero.mp hk9⟩) dX8_lastError_16 (Nat.le_of_ble_eq_true rfl) (Nat.le_of_ble_eq_true rfl)
def T_key (f : Nat → Int32) (k i : Nat) : Int32 := 2 * f (256 * k + 5 * i + 30) + f (256 * k + 5 * i + 31)
set_option maxHeartbeats 4000000 in
theorem met_T_keyOf (l : Launch) (G : gG) (M : gM) (o : Nat) (av : Nat) (asp : Nat) (ak : Nat) (aik : Nat) (atx : Nat) (le : Int32) (am : Nat) (mn : Int32) (aa : Nat) (pl : Int32) (ato : Nat) (f : Nat → Int32) (k : Nat) (i : Nat) (hk : k < 4) (hi : i ≤ 3) (hM_0 : M o = some ((1, 0), .inr (7, [.ref av, .ref asp, .ref ak, .ref aik, .ref atx, .int le, .ref am, .int mn, .ref aa, .int pl, .ref ato]))) (hM_1 : M av = some ((1, 1), .inl (gcs G 0, 1310, .inl f))) : Met l yX8_keyOf (ws_ yX8_keyOf cX8_keyOf 3 (some .int)) ({ frames := 1, cells := 0, slots := 0, locals := 22 }) (gPc G [.ref o, .int (nI k), .int (nI i)] M) (gQi G (fun r9 M9 k9 => r9 = (T_key f k i) ∧ M9 = M ∧ k9 = 0)) 0 0 (gA G) := by
  refine gMet [(0, .ref o), (1, .int (nI k)), (2, .int (nI i))] (by decide) (Nat.le_of_ble_eq_true rfl) rfl ?_
  intro p e s m below meth c hC
  refine g_iconst hC dX8_keyOf_0 ki_2 1 rfl ?_
  refine g_aload_n hC dX8_keyOf_1 0 rfl gRef_r 2 rfl ?_
  refine g_get (v := .ref av) hC cI7 hM_0 0 (Nat.le_of_ble_eq_true rfl) q2942 rfl dX8_keyOf_2 5 rfl ?_
  refine g_iload_n hC dX8_keyOf_5 1 rfl 6 rfl ?_
  refine g_iload_n hC dX8_keyOf_6 2 rfl 7 rfl ?_
  refine g_iconst hC dX8_keyOf_7 ki_0 8 rfl ?_
  refine g_calliP (g_S (As := [.int (nI k), .int (nI i), .int 0]) (rest := [.ref av, .int 2]) hC msX8_wait q3053 (met_T_wait l G M k i 0) ⟨rfl, rfl⟩ ⟨(Nat.le_of_ble_eq_true rfl), (Nat.le_of_ble_eq_true rfl)⟩ rfl (Nat.le_of_ble_eq_true rfl) dX8_keyOf_8 rfl ⟨(Nat.le_of_ble_eq_true rfl), (Nat.le_of_ble_eq_true rfl)⟩) 11 rfl 0 (Nat.le_of_ble_eq_true rfl) ?_
  refine g_topi (y := nI (256 * k + 5 * i + 30)) (congrArg nI (show (256 * k + 5 * i + 0 + 30) = 256 * k + 5 * i + 30 by omega)) ?_
  refine g_iald (v := f (256 * k + 5 * i + 30)) hC hM_1 0 rfl (vp_in_nI (by omega) (by omega)) ((congrArg f (nI_clamp (by omega))).trans rfl) dX8_keyOf_11 12 rfl ?_
  refine g_imul hC dX8_keyOf_12 13 rfl ?_
  refine g_aload_n hC dX8_keyOf_13 0 rfl gRef_r 14 rfl ?_
  refine g_get (v := .ref av) hC cI7 hM_0 0 (Nat.le_of_ble_eq_true rfl) q2942 rfl dX8_keyOf_14 17 rfl ?_
  refine g_iload_n hC dX8_keyOf_17 1 rfl 18 rfl ?_
  refine g_iload_n hC dX8_keyOf_18 2 rfl 19 rfl ?_
  refine g_iconst hC dX8_keyOf_19 ki_1 20 rfl ?_
  refine g_calliP (g_S (As := [.int (nI k), .int (nI i), .int 1]) (rest := [.ref av, .int (2 * (f (256 * k + 5 * i + 30)))]) hC msX8_wait q3053 (met_T_wait l G M k i 1) ⟨rfl, rfl⟩ ⟨(Nat.le_of_ble_eq_true rfl), (Nat.le_of_ble_eq_true rfl)⟩ rfl (Nat.le_of_ble_eq_true rfl) dX8_keyOf_20 rfl ⟨(Nat.le_of_ble_eq_true rfl), (Nat.le_of_ble_eq_true rfl)⟩) 23 rfl 0 (Nat.le_of_ble_eq_true rfl) ?_
  refine g_topi (y := nI (256 * k + 5 * i + 31)) (congrArg nI (show (256 * k + 5 * i + 1 + 30) = 256 * k + 5 * i + 31 by omega)) ?_
  refine g_iald (v := f (256 * k + 5 * i + 31)) hC hM_1 0 rfl (vp_in_nI (by omega) (by omega)) ((congrArg f (nI_clamp (by omega))).trans rfl) dX8_keyOf_23 24 rfl ?_
  refine g_iadd hC dX8_keyOf_24 25 rfl ?_
  exact g_iret (v := (2 * (f (256 * k + 5 * i + 30))) + (f (256 * k + 5 * i + 31))) hC (fun k9 hk9 => ⟨(by first | rfl | (simp only [T_key, if_true, if_false, true_and, and_true, false_and, and_false, true_or, or_true, false_or, or_false, not_true_eq_false, not_false_eq_true, reduceIte, decide_true, decide_false, Bool.false_eq_true]; done) | (simp only [T_key, if_true, if_false, true_and, and_true, false_and, and_false, true_or, or_true, false_or, or_false, not_true_eq_false, not_false_eq_true, reduceIte, decide_true, decide_false, Bool.false_eq_true]; rfl) | (simp only [T_key, if_true, if_false, true_and, and_true, false_and, and_false, true_or, or_true, false_or, or_false, not_true_eq_false, not_false_eq_true, reduceIte, decide_true, decide_false, Bool.false_eq_true]; done) | (simp only [T_key]; simp only [if_true, if_false, true_and, and_true, false_and, and_false, true_or, or_true, false_or, or_false, not_true_eq_false, not_false_eq_true, reduceIte, decide_true, decide_false, Bool.false_eq_true]; done) | (simp only [T_key]; simp only [if_true, if_false, true_and, and_true, false_and, and_false, true_or, or_true, false_or, or_false, not_true_eq_false, not_false_eq_true, reduceIte, decide_true, decide_false, Bool.false_eq_true]; done) | (simp only [T_key]; simp only [if_true, if_false, true_and, and_true, false_and, and_false, true_or, or_true, false_or, or_false, not_true_eq_false, not_false_eq_true, reduceIte, decide_true, decide_false, Bool.false_eq_true]; simp only [T_key]; done) | (simp only [T_key, if_true, if_false, true_and, and_true, false_and, and_false, true_or, or_true, false_or, or_false, not_true_eq_false, not_false_eq_true, reduceIte, decide_true, decide_false, Bool.false_eq_true]; rfl) | (simp only [T_key]; simp only [if_true, if_false, true_and, and_true, false_and, and_false, true_or, or_true, false_or, or_false, not_true_eq_false, not_false_eq_true, reduceIte, decide_true, decide_false, Bool.false_eq_true]; rfl) | (simp only [T_key]; rfl) | (simp only [T_key, if_true, if_false, true_and, and_true, false_and, and_false, true_or, or_true, false_or, or_false, not_true_eq_false, not_false_eq_true, reduceIte, decide_true, decide_false, Bool.false_eq_true]; rfl) | (simp_all [T_key]; done)), rfl, Nat.le_zero.mp hk9⟩) dX8_keyOf_25 (Nat.le_of_ble_eq_true rfl) (Nat.le_of_ble_eq_true rfl)
def T_gkey (f : Nat → Int32) (k i : Nat) : Int32 := 2 * f (256 * k + 4 * i + 50) + f (256 * k + 4 * i + 51)
set_option maxHeartbeats 4000000 in
theorem met_T_gotKey (l : Launch) (G : gG) (M : gM) (o : Nat) (av : Nat) (asp : Nat) (ak : Nat) (aik : Nat) (atx : Nat) (le : Int32) (am : Nat) (mn : Int32) (aa : Nat) (pl : Int32) (ato : Nat) (f : Nat → Int32) (k : Nat) (i : Nat) (hk : k < 4) (hi : i ≤ 5) (hM_0 : M o = some ((1, 0), .inr (7, [.ref av, .ref asp, .ref ak, .ref aik, .ref atx, .int le, .ref am, .int mn, .ref aa, .int pl, .ref ato]))) (hM_1 : M av = some ((1, 1), .inl (gcs G 0, 1310, .inl f))) : Met l yX8_gotKey (ws_ yX8_gotKey cX8_gotKey 3 (some .int)) ({ frames := 1, cells := 0, slots := 0, locals := 22 }) (gPc G [.ref o, .int (nI k), .int (nI i)] M) (gQi G (fun r9 M9 k9 => r9 = (T_gkey f k i) ∧ M9 = M ∧ k9 = 0)) 0 0 (gA G) := by
  refine gMet [(0, .ref o), (1, .int (nI k)), (2, .int (nI i))] (by decide) (Nat.le_of_ble_eq_true rfl) rfl ?_
  intro p e s m below meth c hC
  refine g_iconst hC dX8_gotKey_0 ki_2 1 rfl ?_
  refine g_aload_n hC dX8_gotKey_1 0 rfl gRef_r 2 rfl ?_
  refine g_get (v := .ref av) hC cI7 hM_0 0 (Nat.le_of_ble_eq_true rfl) q2942 rfl dX8_gotKey_2 5 rfl ?_
  refine g_iload_n hC dX8_gotKey_5 1 rfl 6 rfl ?_
  refine g_iload_n hC dX8_gotKey_6 2 rfl 7 rfl ?_
  refine g_iconst hC dX8_gotKey_7 ki_0 8 rfl ?_
  refine g_calliP (g_S (As := [.int (nI k), .int (nI i), .int 0]) (rest := [.ref av, .int 2]) hC msX8_got q3168 (met_T_got l G M k i 0) ⟨rfl, rfl⟩ ⟨(Nat.le_of_ble_eq_true rfl), (Nat.le_of_ble_eq_true rfl)⟩ rfl (Nat.le_of_ble_eq_true rfl) dX8_gotKey_8 rfl ⟨(Nat.le_of_ble_eq_true rfl), (Nat.le_of_ble_eq_true rfl)⟩) 11 rfl 0 (Nat.le_of_ble_eq_true rfl) ?_
  refine g_topi (y := nI (256 * k + 4 * i + 50)) (congrArg nI (show (256 * k + 4 * i + 0 + 50) = 256 * k + 4 * i + 50 by omega)) ?_
  refine g_iald (v := f (256 * k + 4 * i + 50)) hC hM_1 0 rfl (vp_in_nI (by omega) (by omega)) ((congrArg f (nI_clamp (by omega))).trans rfl) dX8_gotKey_11 12 rfl ?_
  refine g_imul hC dX8_gotKey_12 13 rfl ?_
  refine g_aload_n hC dX8_gotKey_13 0 rfl gRef_r 14 rfl ?_
  refine g_get (v := .ref av) hC cI7 hM_0 0 (Nat.le_of_ble_eq_true rfl) q2942 rfl dX8_gotKey_14 17 rfl ?_
  refine g_iload_n hC dX8_gotKey_17 1 rfl 18 rfl ?_
  refine g_iload_n hC dX8_gotKey_18 2 rfl 19 rfl ?_
  refine g_iconst hC dX8_gotKey_19 ki_1 20 rfl ?_
  refine g_calliP (g_S (As := [.int (nI k), .int (nI i), .int 1]) (rest := [.ref av, .int (2 * (f (256 * k + 4 * i + 50)))]) hC msX8_got q3168 (met_T_got l G M k i 1) ⟨rfl, rfl⟩ ⟨(Nat.le_of_ble_eq_true rfl), (Nat.le_of_ble_eq_true rfl)⟩ rfl (Nat.le_of_ble_eq_true rfl) dX8_gotKey_20 rfl ⟨(Nat.le_of_ble_eq_true rfl), (Nat.le_of_ble_eq_true rfl)⟩) 23 rfl 0 (Nat.le_of_ble_eq_true rfl) ?_
  refine g_topi (y := nI (256 * k + 4 * i + 51)) (congrArg nI (show (256 * k + 4 * i + 1 + 50) = 256 * k + 4 * i + 51 by omega)) ?_
  refine g_iald (v := f (256 * k + 4 * i + 51)) hC hM_1 0 rfl (vp_in_nI (by omega) (by omega)) ((congrArg f (nI_clamp (by omega))).trans rfl) dX8_gotKey_23 24 rfl ?_
  refine g_iadd hC dX8_gotKey_24 25 rfl ?_
  exact g_iret (v := (2 * (f (256 * k + 4 * i + 50))) + (f (256 * k + 4 * i + 51))) hC (fun k9 hk9 => ⟨(by first | rfl | (simp only [T_gkey, if_true, if_false, true_and, and_true, false_and, and_false, true_or, or_true, false_or, or_false, not_true_eq_false, not_false_eq_true, reduceIte, decide_true, decide_false, Bool.false_eq_true]; done) | (simp only [T_gkey, if_true, if_false, true_and, and_true, false_and, and_false, true_or, or_true, false_or, or_false, not_true_eq_false, not_false_eq_true, reduceIte, decide_true, decide_false, Bool.false_eq_true]; rfl) | (simp only [T_gkey, if_true, if_false, true_and, and_true, false_and, and_false, true_or, or_true, false_or, or_false, not_true_eq_false, not_false_eq_true, reduceIte, decide_true, decide_false, Bool.false_eq_true]; done) | (simp only [T_gkey]; simp only [if_true, if_false, true_and, and_true, false_and, and_false, true_or, or_true, false_or, or_false, not_true_eq_false, not_false_eq_true, reduceIte, decide_true, decide_false, Bool.false_eq_true]; done) | (simp only [T_gkey]; simp only [if_true, if_false, true_and, and_true, false_and, and_false, true_or, or_true, false_or, or_false, not_true_eq_false, not_false_eq_true, reduceIte, decide_true, decide_false, Bool.false_eq_true]; done) | (simp only [T_gkey]; simp only [if_true, if_false, true_and, and_true, false_and, and_false, true_or, or_true, false_or, or_false, not_true_eq_false, not_false_eq_true, reduceIte, decide_true, decide_false, Bool.false_eq_true]; simp only [T_gkey]; done) | (simp only [T_gkey, if_true, if_false, true_and, and_true, false_and, and_false, true_or, or_true, false_or, or_false, not_true_eq_false, not_false_eq_true, reduceIte, decide_true, decide_false, Bool.false_eq_true]; rfl) | (simp only [T_gkey]; simp only [if_true, if_false, true_and, and_true, false_and, and_false, true_or, or_true, false_or, or_false, not_true_eq_false, not_false_eq_true, reduceIte, decide_true, decide_false, Bool.false_eq_true]; rfl) | (simp only [T_gkey]; rfl) | (simp only [T_gkey, if_true, if_false, true_and, and_true, false_and, and_false, true_or, or_true, false_or, or_false, not_true_eq_false, not_false_eq_true, reduceIte, decide_true, decide_false, Bool.false_eq_true]; rfl) | (simp_all [T_gkey]; done)), rfl, Nat.le_zero.mp hk9⟩) dX8_gotKey_25 (Nat.le_of_ble_eq_true rfl) (Nat.le_of_ble_eq_true rfl)
set_option maxHeartbeats 4000000 in
theorem met_T_isGot (l : Launch) (G : gG) (M : gM) (o : Nat) (av : Nat) (asp : Nat) (ak : Nat) (aik : Nat) (atx : Nat) (le : Int32) (am : Nat) (mn : Int32) (aa : Nat) (pl : Int32) (ato : Nat) (f : Nat → Int32) (k : Nat) (y : Int32) (hk : k < 4) (hM_0 : M o = some ((1, 0), .inr (7, [.ref av, .ref asp, .ref ak, .ref aik, .ref atx, .int le, .ref am, .int mn, .ref aa, .int pl, .ref ato]))) (hM_1 : M av = some ((1, 1), .inl (gcs G 0, 1310, .inl f))) : Met l yX8_isGot (ws_ yX8_isGot cX8_isGot 3 (some .boolean)) ({ frames := 1, cells := 0, slots := 0, locals := 22 }) (gPc G [.ref o, .int (nI k), .int y] M) (gQi G (fun r9 M9 k9 => r9 = (bI (decide (0 ≤ y ∧ y ≤ f (256 * k + 24) - 1))) ∧ M9 = M ∧ k9 = 0)) 0 0 (gA G) := by
  refine gMet [(0, .ref o), (1, .int (nI k)), (2, .int y)] (by decide) (Nat.le_of_ble_eq_true rfl) rfl ?_
  intro p e s m below meth c hC
  refine g_iload_n hC dX8_isGot_0 2 rfl 1 rfl ?_
  refine g_iconst hC dX8_isGot_1 ki_0 2 rfl ?_
  refine g_aload_n hC dX8_isGot_2 0 rfl gRef_r 3 rfl ?_
  refine g_get (v := .ref av) hC cI7 hM_0 0 (Nat.le_of_ble_eq_true rfl) q2942 rfl dX8_isGot_3 6 rfl ?_
  refine g_iload_n hC dX8_isGot_6 1 rfl 7 rfl ?_
  refine g_bipush hC dX8_isGot_7 kb_24 9 rfl ?_
  refine g_calliP (g_S (As := [.int (nI k), .int 24]) (rest := [.ref av, .int 0, .int y]) hC msX8_at q2939 (met_T_at l G M k 24) ⟨rfl, rfl⟩ ⟨(Nat.le_of_ble_eq_true rfl), (Nat.le_of_ble_eq_true rfl)⟩ rfl (Nat.le_of_ble_eq_true rfl) dX8_isGot_9 rfl ⟨(Nat.le_of_ble_eq_true rfl), (Nat.le_of_ble_eq_true rfl)⟩) 12 rfl 0 (Nat.le_of_ble_eq_true rfl) ?_
  refine g_iald (v := f (256 * k + 24)) hC hM_1 0 rfl (vp_in_nI (by omega) (by omega)) ((congrArg f (nI_clamp (by omega))).trans rfl) dX8_isGot_12 13 rfl ?_
  refine g_iconst hC dX8_isGot_13 ki_1 14 rfl ?_
  refine g_isub hC dX8_isGot_14 15 rfl ?_
  refine g_calliP (g_S (As := [.int y, .int 0, .int ((f (256 * k + 24)) - 1)]) (rest := []) hC msX8_in q2984 (met_T_in l G M y 0 ((f (256 * k + 24)) - 1)) ⟨rfl, rfl⟩ ⟨(Nat.le_of_ble_eq_true rfl), (Nat.le_of_ble_eq_true rfl)⟩ rfl (Nat.le_of_ble_eq_true rfl) dX8_isGot_15 rfl ⟨(Nat.le_of_ble_eq_true rfl), (Nat.le_of_ble_eq_true rfl)⟩) 18 rfl 0 (Nat.le_of_ble_eq_true rfl) ?_
  exact g_zret (v := bI (decide (0 ≤ y ∧ y ≤ ((f (256 * k + 24)) - 1)))) hC (bI_n (decide (0 ≤ y ∧ y ≤ ((f (256 * k + 24)) - 1)))) (fun k9 hk9 => ⟨(by first | rfl | (simp only [if_true, if_false, true_and, and_true, false_and, and_false, true_or, or_true, false_or, or_false, not_true_eq_false, not_false_eq_true, reduceIte, decide_true, decide_false, Bool.false_eq_true]; done) | (simp only [if_true, if_false, true_and, and_true, false_and, and_false, true_or, or_true, false_or, or_false, not_true_eq_false, not_false_eq_true, reduceIte, decide_true, decide_false, Bool.false_eq_true]; rfl) | (simp only [if_true, if_false, true_and, and_true, false_and, and_false, true_or, or_true, false_or, or_false, not_true_eq_false, not_false_eq_true, reduceIte, decide_true, decide_false, Bool.false_eq_true]; done) | (simp only []; simp only [if_true, if_false, true_and, and_true, false_and, and_false, true_or, or_true, false_or, or_false, not_true_eq_false, not_false_eq_true, reduceIte, decide_true, decide_false, Bool.false_eq_true]; done) | (simp only []; simp only [if_true, if_false, true_and, and_true, false_and, and_false, true_or, or_true, false_or, or_false, not_true_eq_false, not_false_eq_true, reduceIte, decide_true, decide_false, Bool.false_eq_true]; done) | (simp only []; simp only [if_true, if_false, true_and, and_true, false_and, and_false, true_or, or_true, false_or, or_false, not_true_eq_false, not_false_eq_true, reduceIte, decide_true, decide_false, Bool.false_eq_true]; simp only []; done) | (simp only [if_true, if_false, true_and, and_true, false_and, and_false, true_or, or_true, false_or, or_false, not_true_eq_false, not_false_eq_true, reduceIte, decide_true, decide_false, Bool.false_eq_true]; rfl) | (simp only []; simp only [if_true, if_false, true_and, and_true, false_and, and_false, true_or, or_true, false_or, or_false, not_true_eq_false, not_false_eq_true, reduceIte, decide_true, decide_false, Bool.false_eq_true]; rfl) | (simp only []; rfl) | (simp only [if_true, if_false, true_and, and_true, false_and, and_false, true_or, or_true, false_or, or_false, not_true_eq_false, not_false_eq_true, reduceIte, decide_true, decide_false, Bool.false_eq_true]; rfl) | (simp_all []; done)), rfl, Nat.le_zero.mp hk9⟩) dX8_isGot_18 (Nat.le_of_ble_eq_true rfl) (Nat.le_of_ble_eq_true rfl)
set_option maxHeartbeats 4000000 in
theorem met_T_time (l : Launch) (G : gG) (M : gM) (o : Nat) (av : Nat) (asp : Nat) (ak : Nat) (aik : Nat) (atx : Nat) (le : Int32) (am : Nat) (mn : Int32) (aa : Nat) (pl : Int32) (ato : Nat) (f : Nat → Int32)  (hM_0 : M o = some ((1, 0), .inr (7, [.ref av, .ref asp, .ref ak, .ref aik, .ref atx, .int le, .ref am, .int mn, .ref aa, .int pl, .ref ato]))) (hM_1 : M av = some ((1, 1), .inl (gcs G 0, 1310, .inl f))) : Met l yX8_time (ws_ yX8_time cX8_time 1 (some .int)) ({ frames := 0, cells := 0, slots := 0, locals := 0 }) (gPc G [.ref o] M) (gQi G (fun r9 M9 k9 => r9 = (f 1024) ∧ M9 = M ∧ k9 = 0)) 0 0 (gA G) := by
  refine gMet [(0, .ref o)] (by decide) (Nat.le_of_ble_eq_true rfl) rfl ?_
  intro p e s m below meth c hC
  refine g_aload_n hC dX8_time_0 0 rfl gRef_r 1 rfl ?_
  refine g_get (v := .ref av) hC cI7 hM_0 0 (Nat.le_of_ble_eq_true rfl) q2942 rfl dX8_time_1 4 rfl ?_
  refine g_sipush hC dX8_time_4 ks_1024 7 rfl ?_
  refine g_iald (v := f 1024) hC hM_1 0 rfl (vp_in_nI (n := 1024) (by first | decide | omega) (by first | decide | omega)) ((congrArg f (nI_clamp (n := 1024) (by decide))).trans rfl) dX8_time_7 8 rfl ?_
  exact g_iret (v := f 1024) hC (fun k9 hk9 => ⟨rfl, rfl, Nat.le_zero.mp hk9⟩) dX8_time_8 (Nat.le_of_ble_eq_true rfl) (Nat.le_of_ble_eq_true rfl)
set_option maxHeartbeats 4000000 in
theorem met_T_sentByAll (l : Launch) (G : gG) (M : gM) (o : Nat) (av : Nat) (asp : Nat) (ak : Nat) (aik : Nat) (atx : Nat) (le : Int32) (am : Nat) (mn : Int32) (aa : Nat) (pl : Int32) (ato : Nat) (f : Nat → Int32)  (hM_0 : M o = some ((1, 0), .inr (7, [.ref av, .ref asp, .ref ak, .ref aik, .ref atx, .int le, .ref am, .int mn, .ref aa, .int pl, .ref ato]))) (hM_1 : M av = some ((1, 1), .inl (gcs G 0, 1310, .inl f))) : Met l yX8_sentByAll (ws_ yX8_sentByAll cX8_sentByAll 1 (some .int)) ({ frames := 1, cells := 0, slots := 0, locals := 21 }) (gPc G [.ref o] M) (gQi G (fun r9 M9 k9 => r9 = (((f 14 + f 270) + f 526) + f 782) ∧ M9 = M ∧ k9 = 0)) 0 0 (gA G) := by
  refine gMet [(0, .ref o)] (by decide) (Nat.le_of_ble_eq_true rfl) rfl ?_
  intro p e s m below meth c hC
  refine g_aload_n hC dX8_sentByAll_0 0 rfl gRef_r 1 rfl ?_
  refine g_get (v := .ref av) hC cI7 hM_0 0 (Nat.le_of_ble_eq_true rfl) q2942 rfl dX8_sentByAll_1 4 rfl ?_
  refine g_iconst hC dX8_sentByAll_4 ki_0 5 rfl ?_
  refine g_bipush hC dX8_sentByAll_5 kb_14 7 rfl ?_
  refine g_calliP (g_S (As := [.int 0, .int 14]) (rest := [.ref av]) hC msX8_at q2939 (met_T_at l G M 0 14) ⟨rfl, rfl⟩ ⟨(Nat.le_of_ble_eq_true rfl), (Nat.le_of_ble_eq_true rfl)⟩ rfl (Nat.le_of_ble_eq_true rfl) dX8_sentByAll_7 rfl ⟨(Nat.le_of_ble_eq_true rfl), (Nat.le_of_ble_eq_true rfl)⟩) 10 rfl 0 (Nat.le_of_ble_eq_true rfl) ?_
  refine g_topi (y := 14) (congrArg nI (show (256 * 0 + 14) = 14 by omega)) ?_
  refine g_iald (v := f 14) hC hM_1 0 rfl (vp_in_nI (n := 14) (by first | decide | omega) (by first | decide | omega)) ((congrArg f (nI_clamp (n := 14) (by decide))).trans rfl) dX8_sentByAll_10 11 rfl ?_
  refine g_aload_n hC dX8_sentByAll_11 0 rfl gRef_r 12 rfl ?_
  refine g_get (v := .ref av) hC cI7 hM_0 0 (Nat.le_of_ble_eq_true rfl) q2942 rfl dX8_sentByAll_12 15 rfl ?_
  refine g_iconst hC dX8_sentByAll_15 ki_1 16 rfl ?_
  refine g_bipush hC dX8_sentByAll_16 kb_14 18 rfl ?_
  refine g_calliP (g_S (As := [.int 1, .int 14]) (rest := [.ref av, .int (f 14)]) hC msX8_at q2939 (met_T_at l G M 1 14) ⟨rfl, rfl⟩ ⟨(Nat.le_of_ble_eq_true rfl), (Nat.le_of_ble_eq_true rfl)⟩ rfl (Nat.le_of_ble_eq_true rfl) dX8_sentByAll_18 rfl ⟨(Nat.le_of_ble_eq_true rfl), (Nat.le_of_ble_eq_true rfl)⟩) 21 rfl 0 (Nat.le_of_ble_eq_true rfl) ?_
  refine g_topi (y := 270) (congrArg nI (show (256 * 1 + 14) = 270 by omega)) ?_
  refine g_iald (v := f 270) hC hM_1 0 rfl (vp_in_nI (n := 270) (by first | decide | omega) (by first | decide | omega)) ((congrArg f (nI_clamp (n := 270) (by decide))).trans rfl) dX8_sentByAll_21 22 rfl ?_
  refine g_iadd hC dX8_sentByAll_22 23 rfl ?_
  refine g_aload_n hC dX8_sentByAll_23 0 rfl gRef_r 24 rfl ?_
  refine g_get (v := .ref av) hC cI7 hM_0 0 (Nat.le_of_ble_eq_true rfl) q2942 rfl dX8_sentByAll_24 27 rfl ?_
  refine g_iconst hC dX8_sentByAll_27 ki_2 28 rfl ?_
  refine g_bipush hC dX8_sentByAll_28 kb_14 30 rfl ?_
  refine g_calliP (g_S (As := [.int 2, .int 14]) (rest := [.ref av, .int ((f 14) + (f 270))]) hC msX8_at q2939 (met_T_at l G M 2 14) ⟨rfl, rfl⟩ ⟨(Nat.le_of_ble_eq_true rfl), (Nat.le_of_ble_eq_true rfl)⟩ rfl (Nat.le_of_ble_eq_true rfl) dX8_sentByAll_30 rfl ⟨(Nat.le_of_ble_eq_true rfl), (Nat.le_of_ble_eq_true rfl)⟩) 33 rfl 0 (Nat.le_of_ble_eq_true rfl) ?_
  refine g_topi (y := 526) (congrArg nI (show (256 * 2 + 14) = 526 by omega)) ?_
  refine g_iald (v := f 526) hC hM_1 0 rfl (vp_in_nI (n := 526) (by first | decide | omega) (by first | decide | omega)) ((congrArg f (nI_clamp (n := 526) (by decide))).trans rfl) dX8_sentByAll_33 34 rfl ?_
  refine g_iadd hC dX8_sentByAll_34 35 rfl ?_
  refine g_aload_n hC dX8_sentByAll_35 0 rfl gRef_r 36 rfl ?_
  refine g_get (v := .ref av) hC cI7 hM_0 0 (Nat.le_of_ble_eq_true rfl) q2942 rfl dX8_sentByAll_36 39 rfl ?_
  refine g_iconst hC dX8_sentByAll_39 ki_3 40 rfl ?_
  refine g_bipush hC dX8_sentByAll_40 kb_14 42 rfl ?_
  refine g_calliP (g_S (As := [.int 3, .int 14]) (rest := [.ref av, .int (((f 14) + (f 270)) + (f 526))]) hC msX8_at q2939 (met_T_at l G M 3 14) ⟨rfl, rfl⟩ ⟨(Nat.le_of_ble_eq_true rfl), (Nat.le_of_ble_eq_true rfl)⟩ rfl (Nat.le_of_ble_eq_true rfl) dX8_sentByAll_42 rfl ⟨(Nat.le_of_ble_eq_true rfl), (Nat.le_of_ble_eq_true rfl)⟩) 45 rfl 0 (Nat.le_of_ble_eq_true rfl) ?_
  refine g_topi (y := 782) (congrArg nI (show (256 * 3 + 14) = 782 by omega)) ?_
  refine g_iald (v := f 782) hC hM_1 0 rfl (vp_in_nI (n := 782) (by first | decide | omega) (by first | decide | omega)) ((congrArg f (nI_clamp (n := 782) (by decide))).trans rfl) dX8_sentByAll_45 46 rfl ?_
  refine g_iadd hC dX8_sentByAll_46 47 rfl ?_
  exact g_iret (v := (((f 14) + (f 270)) + (f 526)) + (f 782)) hC (fun k9 hk9 => ⟨(by first | rfl | (simp only [if_true, if_false, true_and, and_true, false_and, and_false, true_or, or_true, false_or, or_false, not_true_eq_false, not_false_eq_true, reduceIte, decide_true, decide_false, Bool.false_eq_true]; done) | (simp only [if_true, if_false, true_and, and_true, false_and, and_false, true_or, or_true, false_or, or_false, not_true_eq_false, not_false_eq_true, reduceIte, decide_true, decide_false, Bool.false_eq_true]; rfl) | (simp only [if_true, if_false, true_and, and_true, false_and, and_false, true_or, or_true, false_or, or_false, not_true_eq_false, not_false_eq_true, reduceIte, decide_true, decide_false, Bool.false_eq_true]; done) | (simp only []; simp only [if_true, if_false, true_and, and_true, false_and, and_false, true_or, or_true, false_or, or_false, not_true_eq_false, not_false_eq_true, reduceIte, decide_true, decide_false, Bool.false_eq_true]; done) | (simp only []; simp only [if_true, if_false, true_and, and_true, false_and, and_false, true_or, or_true, false_or, or_false, not_true_eq_false, not_false_eq_true, reduceIte, decide_true, decide_false, Bool.false_eq_true]; done) | (simp only []; simp only [if_true, if_false, true_and, and_true, false_and, and_false, true_or, or_true, false_or, or_false, not_true_eq_false, not_false_eq_true, reduceIte, decide_true, decide_false, Bool.false_eq_true]; simp only []; done) | (simp only [if_true, if_false, true_and, and_true, false_and, and_false, true_or, or_true, false_or, or_false, not_true_eq_false, not_false_eq_true, reduceIte, decide_true, decide_false, Bool.false_eq_true]; rfl) | (simp only []; simp only [if_true, if_false, true_and, and_true, false_and, and_false, true_or, or_true, false_or, or_false, not_true_eq_false, not_false_eq_true, reduceIte, decide_true, decide_false, Bool.false_eq_true]; rfl) | (simp only []; rfl) | (simp only [if_true, if_false, true_and, and_true, false_and, and_false, true_or, or_true, false_or, or_false, not_true_eq_false, not_false_eq_true, reduceIte, decide_true, decide_false, Bool.false_eq_true]; rfl) | (simp_all []; done)), rfl, Nat.le_zero.mp hk9⟩) dX8_sentByAll_47 (Nat.le_of_ble_eq_true rfl) (Nat.le_of_ble_eq_true rfl)
def okAll (f : Nat → Int32) : Prop := (∀ k, k < 4 → okS f k) ∧ (f 1028 = nI (f 1028).toNatClampNeg ∧ (f 1028).toNatClampNeg ≤ 8) ∧ (f 1024 = nI (f 1024).toNatClampNeg ∧ (f 1024).toNatClampNeg < 1000000)
def T_bits (f : Nat → Int32) : Nat → Nat → Int32
  | 0 => f
  | n + 1 => T_bit (T_bits f n)
theorem met_T_bitA (l : Launch) (G : gG) (M : gM) (o : Nat) (av : Nat) (asp : Nat) (ak : Nat) (aik : Nat) (atx : Nat) (le : Int32) (am : Nat) (mn : Int32) (aa : Nat) (pl : Int32) (ato : Nat) (f : Nat → Int32) (hok : okAll f) (hM_0 : M o = some ((1, 0), .inr (7, [.ref av, .ref asp, .ref ak, .ref aik, .ref atx, .int le, .ref am, .int mn, .ref aa, .int pl, .ref ato]))) (hM_1 : M av = some ((1, 1), .inl (gcs G 0, 1310, .inl f))) : Met l yX8_bit (ws_ yX8_bit cX8_bit 4 none) ({ frames := 7, cells := 0, slots := 0, locals := 157 }) (gPc G [.ref o] M) (gQv G (fun M9 k9 => M9 av = some ((1, 1), .inl (gcs G 0, 1310, .inl (T_bit f))) ∧ gFr (gL [av]) M M9 ∧ k9 = 0)) 0 0 (gA G) :=
  met_T_bit l G M o av asp ak aik atx le am mn aa pl ato f (f 1028).toNatClampNeg (f 1024).toNatClampNeg hok.1 hok.2.1.1 hok.2.1.2 hok.2.2.1 hok.2.2.2 hM_0 hM_1
set_option maxHeartbeats 4000000 in
theorem met_T_run (l : Launch) (G : gG) (M : gM) (o : Nat) (av : Nat) (asp : Nat) (ak : Nat) (aik : Nat) (atx : Nat) (le : Int32) (am : Nat) (mn : Int32) (aa : Nat) (pl : Int32) (ato : Nat) (f : Nat → Int32) (n : Nat) (hn1 : 1 ≤ n) (hn2 : n ≤ 200) (hok : ∀ i, i < n → okAll (T_bits f i)) (hM_0 : M o = some ((1, 0), .inr (7, [.ref av, .ref asp, .ref ak, .ref aik, .ref atx, .int le, .ref am, .int mn, .ref aa, .int pl, .ref ato]))) (hM_1 : M av = some ((1, 1), .inl (gcs G 0, 1310, .inl f))) : Met l yX8_run (ws_ yX8_run cX8_run 4 (some .int)) ({ frames := 8, cells := 0, slots := 0, locals := 180 }) (gPc G [.ref o, .int (nI n)] M) (gQi G (fun r9 M9 k9 => r9 = ((((T_bits f n 14 + T_bits f n 270) + T_bits f n 526) + T_bits f n 782) - (((f 14 + f 270) + f 526) + f 782)) ∧ M9 av = some ((1, 1), .inl (gcs G 0, 1310, .inl (T_bits f n))) ∧ gFr (gL [av]) M M9 ∧ k9 = 0)) 0 0 (gA G) := by
  refine gMet [(0, .ref o), (1, .int (nI n))] (by decide) (Nat.le_of_ble_eq_true rfl) rfl ?_
  intro p e s m below meth c hC
  refine g_iload_n hC dX8_run_0 1 rfl 1 rfl ?_
  refine g_iconst hC dX8_run_1 ki_1 2 rfl ?_
  refine g_sipush hC dX8_run_2 ks_200 5 rfl ?_
  refine g_calliP (g_S (As := [.int (nI n), .int 1, .int 200]) (rest := []) hC msX8_in q2984 (met_T_in l G M (nI n) 1 200) ⟨rfl, rfl⟩ ⟨(Nat.le_of_ble_eq_true rfl), (Nat.le_of_ble_eq_true rfl)⟩ rfl (Nat.le_of_ble_eq_true rfl) dX8_run_5 rfl ⟨(Nat.le_of_ble_eq_true rfl), (Nat.le_of_ble_eq_true rfl)⟩) 8 rfl 0 (Nat.le_of_ble_eq_true rfl) ?_
  refine g_if_ne hC dX8_run_8 14 rfl 11 rfl (fun c_1 => ?_) (fun c_1 => ?_)
  · replace c_1 := bId_1 c_1
    refine g_aload_n hC dX8_run_14 0 rfl gRef_r 15 rfl ?_
    refine g_calliP (g_V (As := []) (rest := []) hC mvX8_sentByAll q3088 (gOf.of hC.K cI7 hM_0) (met_T_sentByAll l G M o av asp ak aik atx le am mn aa pl ato f hM_0 hM_1) ⟨rfl, rfl⟩ ⟨(Nat.le_of_ble_eq_true rfl), (Nat.le_of_ble_eq_true rfl)⟩ rfl (Nat.le_of_ble_eq_true rfl) dX8_run_15 rfl ⟨(Nat.le_of_ble_eq_true rfl), (Nat.le_of_ble_eq_true rfl)⟩) 18 rfl 0 (Nat.le_of_ble_eq_true rfl) ?_
    refine g_istore_n hC dX8_run_18 rfl (Nat.le_of_ble_eq_true rfl) [(2, .int (((f 14 + f 270) + f 526) + f 782)), (0, .ref o), (1, .int (nI n))] rfl 19 rfl ?_
    refine g_iconst hC dX8_run_19 ki_0 20 rfl ?_
    refine g_istore_n hC dX8_run_20 rfl (Nat.le_of_ble_eq_true rfl) [(3, .int 0), (2, .int (((f 14 + f 270) + f 526) + f 782)), (0, .ref o), (1, .int (nI n))] rfl 21 rfl ?_
    have loop21 : ∀ (n9 : Nat) (i : Nat) (F : Nat → Int32) (ML : gM), (hi : i ≤ n) → (hF : F = T_bits f i) → n - i < n9 → (ML o = some ((1, 0), .inr (7, [.ref av, .ref asp, .ref ak, .ref aik, .ref atx, .int le, .ref am, .int mn, .ref aa, .int pl, .ref ato]))) → (ML av = some ((1, 1), .inl (gcs G 0, 1310, .inl F))) → gFr (gL [av]) M ML → gJ p l e ({ frames := 8, cells := 0, slots := 0, locals := 180 } : Room) s m ([.ref o, .int (nI n)] : List Value).toArray below meth c G 4 (MQ below (gQi G (fun r9 M9 k9 => r9 = ((((T_bits f n 14 + T_bits f n 270) + T_bits f n 526) + T_bits f n 782) - (((f 14 + f 270) + f 526) + f 782)) ∧ M9 av = some ((1, 1), .inl (gcs G 0, 1310, .inl (T_bits f n))) ∧ gFr (gL [av]) M M9 ∧ k9 = 0)) ([.ref o, .int (nI n)] : List Value).toArray s 0 0 (gA G)) 0 0 ML 21 [(0, .ref o), (1, .int (nI n)), (2, .int (((f 14 + f 270) + f 526) + f 782)), (3, .int (nI i))] [] := by
      intro n9
      induction n9 with
      | zero => intro i F ML hi hF hmu; exact absurd hmu (Nat.not_lt_zero _)
      | succ n9 ih =>
        intro i F ML hi hF hmu hL_0 hL_1 hLF
        refine g_iload_n hC dX8_run_21 3 rfl 22 rfl ?_
        refine g_iload_n hC dX8_run_22 1 rfl 23 rfl ?_
        refine g_icmp_ge hC dX8_run_23 36 rfl 26 rfl (fun c_2 => ?_) (fun c_2 => ?_)
        · replace c_2 : n ≤ i := nn_le (by omega) (by omega) c_2
          refine g_aload_n hC dX8_run_36 0 rfl gRef_r 37 rfl ?_
          refine g_calliP (g_V (As := []) (rest := []) hC mvX8_sentByAll q3088 (gOf.of hC.K cI7 hL_0) (met_T_sentByAll l G ML o av asp ak aik atx le am mn aa pl ato F hL_0 hL_1) ⟨rfl, rfl⟩ ⟨(Nat.le_of_ble_eq_true rfl), (Nat.le_of_ble_eq_true rfl)⟩ rfl (Nat.le_of_ble_eq_true rfl) dX8_run_37 rfl ⟨(Nat.le_of_ble_eq_true rfl), (Nat.le_of_ble_eq_true rfl)⟩) 40 rfl 0 (Nat.le_of_ble_eq_true rfl) ?_
          refine g_iload_n hC dX8_run_40 2 rfl 41 rfl ?_
          refine g_isub hC dX8_run_41 42 rfl ?_
          exact g_iret (v := (((F 14 + F 270) + F 526) + F 782) - (((f 14 + f 270) + f 526) + f 782)) hC (fun k9 hk9 => ⟨(by rw [hF, show i = n by omega]), (by rw [hL_1, hF, show i = n by omega]), hLF, (by first | exact Nat.le_zero.mp hk9 | omega)⟩) dX8_run_42 (Nat.le_of_ble_eq_true rfl) (Nat.le_of_ble_eq_true rfl)
        · replace c_2 : i < n := nn_nle (by omega) (by omega) c_2
          refine g_aload_n hC dX8_run_26 0 rfl gRef_r 27 rfl ?_
          refine g_callv (g_V (As := []) (rest := []) hC mvX8_bit q3092 (gOf.of hC.K cI7 hL_0) (met_T_bitA l G ML o av asp ak aik atx le am mn aa pl ato F (by rw [hF]; exact hok i (by omega)) hL_0 hL_1) ⟨rfl, rfl⟩ ⟨(Nat.le_of_ble_eq_true rfl), (Nat.le_of_ble_eq_true rfl)⟩ rfl (Nat.le_of_ble_eq_true rfl) dX8_run_27 rfl ⟨(Nat.le_of_ble_eq_true rfl), (Nat.le_of_ble_eq_true rfl)⟩) 0 (Nat.le_of_ble_eq_true rfl) 0 (Nat.le_of_ble_eq_true rfl) 30 rfl (fun M3 k4 hp5 => ?_)
          obtain ⟨hc7, hF8, hk9⟩ := hp5
          obtain ⟨F10, eF11⟩ : ∃ z, z = T_bit F := ⟨_, rfl⟩
          rw [← eF11] at hc7
          refine g_iinc hC dX8_run_30 3 rfl (v := nI (i + 1)) (by rw [ki_1]; exact nI_a (a := i) (b := 1) (c := (i + 1)) (by omega)) (Nat.le_of_ble_eq_true rfl) [(3, .int (nI (i + 1))), (0, .ref o), (1, .int (nI n)), (2, .int (((f 14 + f 270) + f 526) + f 782))] rfl 33 rfl ?_
          refine g_goto hC dX8_run_33 21 rfl ?_
          refine gJ.sub (M' := M3) [1, 2, 3, 0] rfl ?_
          exact ih (i + 1) F10 M3 (by omega) (by rw [eF11, hF]; rfl) (by omega) (hF8 _ _ _ hL_0 (gno (gne_oa hL_0 hL_1) gno0)) hc7 (hLF.trans (hF8.mono (by intro b t hb; simp at hb ⊢; first | done | (rcases hb with rfl | rfl | rfl | rfl <;> simp) | (simp [hb]; done))))
    refine gJ.sub (M' := M) [2, 3, 1, 0] rfl ?_
    exact loop21 _ 0 f M (by omega) rfl (Nat.lt_succ_self _) hM_0 hM_1 gFr.refl
  · replace c_1 := bId_0 c_1
    exact absurd (show 1 ≤ nI n ∧ nI n ≤ 200 from ⟨nI_le (a := 1) hn1 (by omega), nI_le (b := 200) hn2 (by omega)⟩) c_1
set_option maxHeartbeats 4000000 in
theorem met_T_run_n (l : Launch) (G : gG) (M : gM) (o : Nat) (av : Nat) (asp : Nat) (ak : Nat) (aik : Nat) (atx : Nat) (le : Int32) (am : Nat) (mn : Int32) (aa : Nat) (pl : Int32) (ato : Nat) (f : Nat → Int32) (x : Int32) (hx : ¬ (1 ≤ x ∧ x ≤ 200)) (hM_0 : M o = some ((1, 0), .inr (7, [.ref av, .ref asp, .ref ak, .ref aik, .ref atx, .int le, .ref am, .int mn, .ref aa, .int pl, .ref ato]))) (hM_1 : M av = some ((1, 1), .inl (gcs G 0, 1310, .inl f))) : Met l yX8_run (ws_ yX8_run cX8_run 4 (some .int)) ({ frames := 1, cells := 0, slots := 0, locals := 22 }) (gPc G [.ref o, .int x] M) (gQi G (fun r9 M9 k9 => r9 = (-2) ∧ M9 = M ∧ k9 = 0)) 0 0 (gA G) := by
  refine gMet [(0, .ref o), (1, .int x)] (by decide) (Nat.le_of_ble_eq_true rfl) rfl ?_
  intro p e s m below meth c hC
  refine g_iload_n hC dX8_run_0 1 rfl 1 rfl ?_
  refine g_iconst hC dX8_run_1 ki_1 2 rfl ?_
  refine g_sipush hC dX8_run_2 ks_200 5 rfl ?_
  refine g_calliP (g_S (As := [.int x, .int 1, .int 200]) (rest := []) hC msX8_in q2984 (met_T_in l G M x 1 200) ⟨rfl, rfl⟩ ⟨(Nat.le_of_ble_eq_true rfl), (Nat.le_of_ble_eq_true rfl)⟩ rfl (Nat.le_of_ble_eq_true rfl) dX8_run_5 rfl ⟨(Nat.le_of_ble_eq_true rfl), (Nat.le_of_ble_eq_true rfl)⟩) 8 rfl 0 (Nat.le_of_ble_eq_true rfl) ?_
  refine g_if_ne hC dX8_run_8 14 rfl 11 rfl (fun c_1 => ?_) (fun c_1 => ?_)
  · replace c_1 := bId_1 c_1
    exact absurd c_1 hx
  · replace c_1 := bId_0 c_1
    refine g_bipush hC dX8_run_11 kb_m2 13 rfl ?_
    exact g_iret (v := -2) hC (fun k9 hk9 => ⟨rfl, rfl, Nat.le_zero.mp hk9⟩) dX8_run_13 (Nat.le_of_ble_eq_true rfl) (Nat.le_of_ble_eq_true rfl)
def stT (f : Nat → Int32) : Nat → Bool
  | 0 => true
  | i + 1 => stT f i && decide (f (256 * i) = 0 ∨ f (256 * i) = 1 ∨ (f (256 * i) = 3 ∧ f (256 * i + 23) = 0))
set_option maxHeartbeats 4000000 in
theorem met_T_isSettled (l : Launch) (G : gG) (M : gM) (o : Nat) (av : Nat) (asp : Nat) (ak : Nat) (aik : Nat) (atx : Nat) (le : Int32) (am : Nat) (mn : Int32) (aa : Nat) (pl : Int32) (ato : Nat) (f : Nat → Int32)  (hM_0 : M o = some ((1, 0), .inr (7, [.ref av, .ref asp, .ref ak, .ref aik, .ref atx, .int le, .ref am, .int mn, .ref aa, .int pl, .ref ato]))) (hM_1 : M av = some ((1, 1), .inl (gcs G 0, 1310, .inl f))) : Met l yX8_isSettled (ws_ yX8_isSettled cX8_isSettled 4 (some .boolean)) ({ frames := 1, cells := 0, slots := 0, locals := 21 }) (gPc G [.ref o] M) (gQi G (fun r9 M9 k9 => r9 = (bI (stT f 4)) ∧ M9 = M ∧ k9 = 0)) 0 0 (gA G) := by
  refine gMet [(0, .ref o)] (by decide) (Nat.le_of_ble_eq_true rfl) rfl ?_
  intro p e s m below meth c hC
  refine g_iconst hC dX8_isSettled_0 ki_1 1 rfl ?_
  refine g_istore_n hC dX8_isSettled_1 rfl (Nat.le_of_ble_eq_true rfl) [(1, .int 1), (0, .ref o)] rfl 2 rfl ?_
  refine g_iconst hC dX8_isSettled_2 ki_0 3 rfl ?_
  refine g_istore_n hC dX8_isSettled_3 rfl (Nat.le_of_ble_eq_true rfl) [(2, .int 0), (1, .int 1), (0, .ref o)] rfl 4 rfl ?_
  have loop4 : ∀ (n9 : Nat) (i : Nat) (b : Bool), (hi : i ≤ 4) → (hb : b = stT f i) → 4 - i < n9 → (M o = some ((1, 0), .inr (7, [.ref av, .ref asp, .ref ak, .ref aik, .ref atx, .int le, .ref am, .int mn, .ref aa, .int pl, .ref ato]))) → (M av = some ((1, 1), .inl (gcs G 0, 1310, .inl f))) → gJ p l e ({ frames := 1, cells := 0, slots := 0, locals := 21 } : Room) s m ([.ref o] : List Value).toArray below meth c G 4 (MQ below (gQi G (fun r9 M9 k9 => r9 = (bI (stT f 4)) ∧ M9 = M ∧ k9 = 0)) ([.ref o] : List Value).toArray s 0 0 (gA G)) 0 0 M 4 [(0, .ref o), (1, .int (bI b)), (2, .int (nI i))] [] := by
    intro n9
    induction n9 with
    | zero => intro i b hi hb hmu; exact absurd hmu (Nat.not_lt_zero _)
    | succ n9 ih =>
      intro i b hi hb hmu hL_0 hL_1
      refine g_iload_n hC dX8_isSettled_4 2 rfl 5 rfl ?_
      refine g_iconst hC dX8_isSettled_5 ki_4 6 rfl ?_
      refine g_icmp_ge hC dX8_isSettled_6 64 rfl 9 rfl (fun c_1 => ?_) (fun c_1 => ?_)
      · replace c_1 : 4 ≤ i := nn_le (by omega) (by omega) c_1
        refine g_iload_n hC dX8_isSettled_64 1 rfl 65 rfl ?_
        exact g_zret (v := bI b) hC (bI_n b) (fun k9 hk9 => ⟨(by rw [hb, show i = 4 by omega]), rfl, Nat.le_zero.mp hk9⟩) dX8_isSettled_65 (Nat.le_of_ble_eq_true rfl) (Nat.le_of_ble_eq_true rfl)
      · replace c_1 : i < 4 := nn_nle (by omega) (by omega) c_1
        refine g_aload_n hC dX8_isSettled_9 0 rfl gRef_r 10 rfl ?_
        refine g_get (v := .ref av) hC cI7 hL_0 0 (Nat.le_of_ble_eq_true rfl) q2942 rfl dX8_isSettled_10 13 rfl ?_
        refine g_iload_n hC dX8_isSettled_13 2 rfl 14 rfl ?_
        refine g_iconst hC dX8_isSettled_14 ki_0 15 rfl ?_
        refine g_calliP (g_S (As := [.int (nI i), .int 0]) (rest := [.ref av]) hC msX8_at q2939 (met_T_at l G M i 0) ⟨rfl, rfl⟩ ⟨(Nat.le_of_ble_eq_true rfl), (Nat.le_of_ble_eq_true rfl)⟩ rfl (Nat.le_of_ble_eq_true rfl) dX8_isSettled_15 rfl ⟨(Nat.le_of_ble_eq_true rfl), (Nat.le_of_ble_eq_true rfl)⟩) 18 rfl 0 (Nat.le_of_ble_eq_true rfl) ?_
        refine g_topi (y := nI (256 * i)) (congrArg nI (show (256 * i + 0) = 256 * i by omega)) ?_
        refine g_iald (v := f (256 * i)) hC hL_1 0 rfl (vp_in_nI (by omega) (by omega)) ((congrArg f (nI_clamp (by omega))).trans rfl) dX8_isSettled_18 19 rfl ?_
        refine g_istore_n hC dX8_isSettled_19 rfl (Nat.le_of_ble_eq_true rfl) [(3, .int (f (256 * i))), (0, .ref o), (1, .int (bI b)), (2, .int (nI i))] rfl 20 rfl ?_
        refine g_iload_n hC dX8_isSettled_20 2 rfl 21 rfl ?_
        refine g_if_eq hC dX8_isSettled_21 56 rfl 24 rfl (fun c_2 => ?_) (fun c_2 => ?_)
        · replace c_2 : b = false := bB_e0 c_2
          refine g_iconst hC dX8_isSettled_56 ki_0 57 rfl ?_
          refine g_istore_n hC dX8_isSettled_57 rfl (Nat.le_of_ble_eq_true rfl) [(1, .int 0), (3, .int (f (256 * i))), (0, .ref o), (2, .int (nI i))] rfl 58 rfl ?_
          refine g_iinc hC dX8_isSettled_58 3 rfl (v := nI (i + 1)) (by rw [ki_1]; exact nI_a (a := i) (b := 1) (c := (i + 1)) (by omega)) (Nat.le_of_ble_eq_true rfl) [(2, .int (nI (i + 1))), (1, .int 0), (3, .int (f (256 * i))), (0, .ref o)] rfl 61 rfl ?_
          refine g_goto hC dX8_isSettled_61 4 rfl ?_
          refine gJ.sub (M' := M) [3, 1, 0] rfl ?_
          exact ih (i + 1) false (by omega) (by simp only [stT, ← hb]; simp_all) (by omega) hL_0 hL_1
        · replace c_2 : b = true := bB_n0 c_2
          refine g_iload_n hC dX8_isSettled_24 0 rfl 25 rfl ?_
          refine g_if_eq hC dX8_isSettled_25 52 rfl 28 rfl (fun c_3 => ?_) (fun c_3 => ?_)
          · refine g_iconst hC dX8_isSettled_52 ki_1 53 rfl ?_
            refine g_goto hC dX8_isSettled_53 57 rfl ?_
            refine g_istore_n hC dX8_isSettled_57 rfl (Nat.le_of_ble_eq_true rfl) [(1, .int 1), (3, .int (f (256 * i))), (0, .ref o), (2, .int (nI i))] rfl 58 rfl ?_
            refine g_iinc hC dX8_isSettled_58 3 rfl (v := nI (i + 1)) (by rw [ki_1]; exact nI_a (a := i) (b := 1) (c := (i + 1)) (by omega)) (Nat.le_of_ble_eq_true rfl) [(2, .int (nI (i + 1))), (1, .int 1), (3, .int (f (256 * i))), (0, .ref o)] rfl 61 rfl ?_
            refine g_goto hC dX8_isSettled_61 4 rfl ?_
            refine gJ.sub (M' := M) [3, 1, 0] rfl ?_
            exact ih (i + 1) true (by omega) (by simp only [stT, ← hb]; simp_all) (by omega) hL_0 hL_1
          · refine g_iload_n hC dX8_isSettled_28 0 rfl 29 rfl ?_
            refine g_iconst hC dX8_isSettled_29 ki_1 30 rfl ?_
            refine g_icmp_eq hC dX8_isSettled_30 52 rfl 33 rfl (fun c_4 => ?_) (fun c_4 => ?_)
            · refine g_iconst hC dX8_isSettled_52 ki_1 53 rfl ?_
              refine g_goto hC dX8_isSettled_53 57 rfl ?_
              refine g_istore_n hC dX8_isSettled_57 rfl (Nat.le_of_ble_eq_true rfl) [(1, .int 1), (3, .int (f (256 * i))), (0, .ref o), (2, .int (nI i))] rfl 58 rfl ?_
              refine g_iinc hC dX8_isSettled_58 3 rfl (v := nI (i + 1)) (by rw [ki_1]; exact nI_a (a := i) (b := 1) (c := (i + 1)) (by omega)) (Nat.le_of_ble_eq_true rfl) [(2, .int (nI (i + 1))), (1, .int 1), (3, .int (f (256 * i))), (0, .ref o)] rfl 61 rfl ?_
              refine g_goto hC dX8_isSettled_61 4 rfl ?_
              refine gJ.sub (M' := M) [3, 1, 0] rfl ?_
              exact ih (i + 1) true (by omega) (by simp only [stT, ← hb]; simp_all) (by omega) hL_0 hL_1
            · refine g_iload_n hC dX8_isSettled_33 0 rfl 34 rfl ?_
              refine g_iconst hC dX8_isSettled_34 ki_3 35 rfl ?_
              refine g_icmp_ne hC dX8_isSettled_35 56 rfl 38 rfl (fun c_5 => ?_) (fun c_5 => ?_)
              · refine g_iconst hC dX8_isSettled_56 ki_0 57 rfl ?_
                refine g_istore_n hC dX8_isSettled_57 rfl (Nat.le_of_ble_eq_true rfl) [(1, .int 0), (3, .int (f (256 * i))), (0, .ref o), (2, .int (nI i))] rfl 58 rfl ?_
                refine g_iinc hC dX8_isSettled_58 3 rfl (v := nI (i + 1)) (by rw [ki_1]; exact nI_a (a := i) (b := 1) (c := (i + 1)) (by omega)) (Nat.le_of_ble_eq_true rfl) [(2, .int (nI (i + 1))), (1, .int 0), (3, .int (f (256 * i))), (0, .ref o)] rfl 61 rfl ?_
                refine g_goto hC dX8_isSettled_61 4 rfl ?_
                refine gJ.sub (M' := M) [3, 1, 0] rfl ?_
                exact ih (i + 1) false (by omega) (by simp only [stT, ← hb]; simp_all) (by omega) hL_0 hL_1
              · refine g_aload_n hC dX8_isSettled_38 1 rfl gRef_r 39 rfl ?_
                refine g_get (v := .ref av) hC cI7 hL_0 0 (Nat.le_of_ble_eq_true rfl) q2942 rfl dX8_isSettled_39 42 rfl ?_
                refine g_iload_n hC dX8_isSettled_42 3 rfl 43 rfl ?_
                refine g_bipush hC dX8_isSettled_43 kb_23 45 rfl ?_
                refine g_calliP (g_S (As := [.int (nI i), .int 23]) (rest := [.ref av]) hC msX8_at q2939 (met_T_at l G M i 23) ⟨rfl, rfl⟩ ⟨(Nat.le_of_ble_eq_true rfl), (Nat.le_of_ble_eq_true rfl)⟩ rfl (Nat.le_of_ble_eq_true rfl) dX8_isSettled_45 rfl ⟨(Nat.le_of_ble_eq_true rfl), (Nat.le_of_ble_eq_true rfl)⟩) 48 rfl 0 (Nat.le_of_ble_eq_true rfl) ?_
                refine g_iald (v := f (256 * i + 23)) hC hL_1 0 rfl (vp_in_nI (by omega) (by omega)) ((congrArg f (nI_clamp (by omega))).trans rfl) dX8_isSettled_48 49 rfl ?_
                refine g_if_ne hC dX8_isSettled_49 56 rfl 52 rfl (fun c_6 => ?_) (fun c_6 => ?_)
                · refine g_iconst hC dX8_isSettled_56 ki_0 57 rfl ?_
                  refine g_istore_n hC dX8_isSettled_57 rfl (Nat.le_of_ble_eq_true rfl) [(1, .int 0), (3, .int (f (256 * i))), (0, .ref o), (2, .int (nI i))] rfl 58 rfl ?_
                  refine g_iinc hC dX8_isSettled_58 3 rfl (v := nI (i + 1)) (by rw [ki_1]; exact nI_a (a := i) (b := 1) (c := (i + 1)) (by omega)) (Nat.le_of_ble_eq_true rfl) [(2, .int (nI (i + 1))), (1, .int 0), (3, .int (f (256 * i))), (0, .ref o)] rfl 61 rfl ?_
                  refine g_goto hC dX8_isSettled_61 4 rfl ?_
                  refine gJ.sub (M' := M) [3, 1, 0] rfl ?_
                  exact ih (i + 1) false (by omega) (by simp only [stT, ← hb]; simp_all) (by omega) hL_0 hL_1
                · refine g_iconst hC dX8_isSettled_52 ki_1 53 rfl ?_
                  refine g_goto hC dX8_isSettled_53 57 rfl ?_
                  refine g_istore_n hC dX8_isSettled_57 rfl (Nat.le_of_ble_eq_true rfl) [(1, .int 1), (3, .int (f (256 * i))), (0, .ref o), (2, .int (nI i))] rfl 58 rfl ?_
                  refine g_iinc hC dX8_isSettled_58 3 rfl (v := nI (i + 1)) (by rw [ki_1]; exact nI_a (a := i) (b := 1) (c := (i + 1)) (by omega)) (Nat.le_of_ble_eq_true rfl) [(2, .int (nI (i + 1))), (1, .int 1), (3, .int (f (256 * i))), (0, .ref o)] rfl 61 rfl ?_
                  refine g_goto hC dX8_isSettled_61 4 rfl ?_
                  refine gJ.sub (M' := M) [3, 1, 0] rfl ?_
                  exact ih (i + 1) true (by omega) (by simp only [stT, ← hb]; simp_all) (by omega) hL_0 hL_1
  refine gJ.sub (M' := M) [2, 1, 0] rfl ?_
  exact loop4 _ 0 true (by omega) rfl (Nat.lt_succ_self _) hM_0 hM_1
def stlT : Nat → Nat → (Nat → Int32) → (Nat → Int32) × Nat
  | 0, n, F => (F, n)
  | j + 1, n, F => if stT F 4 = true then (F, n) else stlT j (n + 1) (T_bit F)
set_option maxHeartbeats 4000000 in
theorem met_T_settle (l : Launch) (G : gG) (M : gM) (o : Nat) (av : Nat) (asp : Nat) (ak : Nat) (aik : Nat) (atx : Nat) (le : Int32) (am : Nat) (mn : Int32) (aa : Nat) (pl : Int32) (ato : Nat) (f : Nat → Int32) (hok : ∀ i, i < 1000 → okAll (T_bits f i)) (hM_0 : M o = some ((1, 0), .inr (7, [.ref av, .ref asp, .ref ak, .ref aik, .ref atx, .int le, .ref am, .int mn, .ref aa, .int pl, .ref ato]))) (hM_1 : M av = some ((1, 1), .inl (gcs G 0, 1310, .inl f))) : Met l yX8_settle (ws_ yX8_settle cX8_settle 2 (some .int)) ({ frames := 8, cells := 0, slots := 0, locals := 180 }) (gPc G [.ref o] M) (gQi G (fun r9 M9 k9 => r9 = (if stT (stlT 1000 0 f).1 4 = true then nI (stlT 1000 0 f).2 else -5) ∧ M9 av = some ((1, 1), .inl (gcs G 0, 1310, .inl ((stlT 1000 0 f).1))) ∧ gFr (gL [av]) M M9 ∧ k9 = 0)) 0 0 (gA G) := by
  refine gMet [(0, .ref o)] (by decide) (Nat.le_of_ble_eq_true rfl) rfl ?_
  intro p e s m below meth c hC
  refine g_iconst hC dX8_settle_0 ki_0 1 rfl ?_
  refine g_istore_n hC dX8_settle_1 rfl (Nat.le_of_ble_eq_true rfl) [(1, .int 0), (0, .ref o)] rfl 2 rfl ?_
  have loop2 : ∀ (n9 : Nat) (i : Nat) (F : Nat → Int32) (ML : gM), (hi : i ≤ 1000) → (hF : F = T_bits f i) → (hr : stlT (1000 - i) i F = stlT 1000 0 f) → 1000 - i < n9 → (ML o = some ((1, 0), .inr (7, [.ref av, .ref asp, .ref ak, .ref aik, .ref atx, .int le, .ref am, .int mn, .ref aa, .int pl, .ref ato]))) → (ML av = some ((1, 1), .inl (gcs G 0, 1310, .inl F))) → gFr (gL [av]) M ML → gJ p l e ({ frames := 8, cells := 0, slots := 0, locals := 180 } : Room) s m ([.ref o] : List Value).toArray below meth c G 2 (MQ below (gQi G (fun r9 M9 k9 => r9 = (if stT (stlT 1000 0 f).1 4 = true then nI (stlT 1000 0 f).2 else -5) ∧ M9 av = some ((1, 1), .inl (gcs G 0, 1310, .inl ((stlT 1000 0 f).1))) ∧ gFr (gL [av]) M M9 ∧ k9 = 0)) ([.ref o] : List Value).toArray s 0 0 (gA G)) 0 0 ML 2 [(0, .ref o), (1, .int (nI i))] [] := by
    intro n9
    induction n9 with
    | zero => intro i F ML hi hF hr hmu; exact absurd hmu (Nat.not_lt_zero _)
    | succ n9 ih =>
      intro i F ML hi hF hr hmu hL_0 hL_1 hLF
      refine g_iload_n hC dX8_settle_2 1 rfl 3 rfl ?_
      refine g_sipush hC dX8_settle_3 ks_1000 6 rfl ?_
      refine g_icmp_ge hC dX8_settle_6 26 rfl 9 rfl (fun c_1 => ?_) (fun c_1 => ?_)
      · replace c_1 : 1000 ≤ i := nn_le (by omega) (by omega) c_1
        have hq : stlT 1000 0 f = (F, i) := (by rw [← hr, show 1000 - i = 0 by omega]; rfl)
        refine g_aload_n hC dX8_settle_26 0 rfl gRef_r 27 rfl ?_
        refine g_calliP (g_V (As := []) (rest := []) hC mvX8_isSettled q3199 (gOf.of hC.K cI7 hL_0) (met_T_isSettled l G ML o av asp ak aik atx le am mn aa pl ato F hL_0 hL_1) ⟨rfl, rfl⟩ ⟨(Nat.le_of_ble_eq_true rfl), (Nat.le_of_ble_eq_true rfl)⟩ rfl (Nat.le_of_ble_eq_true rfl) dX8_settle_27 rfl ⟨(Nat.le_of_ble_eq_true rfl), (Nat.le_of_ble_eq_true rfl)⟩) 30 rfl 0 (Nat.le_of_ble_eq_true rfl) ?_
        refine g_if_eq hC dX8_settle_30 37 rfl 33 rfl (fun c_2 => ?_) (fun c_2 => ?_)
        · replace c_2 : stT F 4 = false := bB_e0 c_2
          refine g_bipush hC dX8_settle_37 kb_m5 39 rfl ?_
          exact g_iret (v := -5) hC (fun k9 hk9 => ⟨(by rw [hq]; simp only [c_2, if_true, if_false, Bool.false_eq_true]), (by rw [hL_1, hq]), hLF, (by first | exact Nat.le_zero.mp hk9 | omega)⟩) dX8_settle_39 (Nat.le_of_ble_eq_true rfl) (Nat.le_of_ble_eq_true rfl)
        · replace c_2 : stT F 4 = true := bB_n0 c_2
          refine g_iload_n hC dX8_settle_33 1 rfl 34 rfl ?_
          refine g_goto hC dX8_settle_34 39 rfl ?_
          exact g_iret (v := nI i) hC (fun k9 hk9 => ⟨(by rw [hq]; simp only [c_2, if_true, if_false, Bool.false_eq_true]), (by rw [hL_1, hq]), hLF, (by first | exact Nat.le_zero.mp hk9 | omega)⟩) dX8_settle_39 (Nat.le_of_ble_eq_true rfl) (Nat.le_of_ble_eq_true rfl)
      · replace c_1 : i < 1000 := nn_nle (by omega) (by omega) c_1
        refine g_aload_n hC dX8_settle_9 0 rfl gRef_r 10 rfl ?_
        refine g_calliP (g_V (As := []) (rest := []) hC mvX8_isSettled q3199 (gOf.of hC.K cI7 hL_0) (met_T_isSettled l G ML o av asp ak aik atx le am mn aa pl ato F hL_0 hL_1) ⟨rfl, rfl⟩ ⟨(Nat.le_of_ble_eq_true rfl), (Nat.le_of_ble_eq_true rfl)⟩ rfl (Nat.le_of_ble_eq_true rfl) dX8_settle_10 rfl ⟨(Nat.le_of_ble_eq_true rfl), (Nat.le_of_ble_eq_true rfl)⟩) 13 rfl 0 (Nat.le_of_ble_eq_true rfl) ?_
        refine g_if_ne hC dX8_settle_13 26 rfl 16 rfl (fun c_3 => ?_) (fun c_3 => ?_)
        · replace c_3 : stT F 4 = true := bB_n0 c_3
          have hq : stlT 1000 0 f = (F, i) := (by rw [← hr, show 1000 - i = (1000 - (i + 1)) + 1 by omega]; simp only [stlT, c_3, if_true])
          refine g_aload_n hC dX8_settle_26 0 rfl gRef_r 27 rfl ?_
          refine g_calliP (g_V (As := []) (rest := []) hC mvX8_isSettled q3199 (gOf.of hC.K cI7 hL_0) (met_T_isSettled l G ML o av asp ak aik atx le am mn aa pl ato F hL_0 hL_1) ⟨rfl, rfl⟩ ⟨(Nat.le_of_ble_eq_true rfl), (Nat.le_of_ble_eq_true rfl)⟩ rfl (Nat.le_of_ble_eq_true rfl) dX8_settle_27 rfl ⟨(Nat.le_of_ble_eq_true rfl), (Nat.le_of_ble_eq_true rfl)⟩) 30 rfl 0 (Nat.le_of_ble_eq_true rfl) ?_
          refine g_if_eq hC dX8_settle_30 37 rfl 33 rfl (fun c_4 => ?_) (fun c_4 => ?_)
          · replace c_4 : stT F 4 = false := bB_e0 c_4
            exact absurd (c_3.symm.trans c_4) (by decide)
          · replace c_4 : stT F 4 = true := bB_n0 c_4
            refine g_iload_n hC dX8_settle_33 1 rfl 34 rfl ?_
            refine g_goto hC dX8_settle_34 39 rfl ?_
            exact g_iret (v := nI i) hC (fun k9 hk9 => ⟨(by rw [hq]; simp only [c_3, c_4, if_true, if_false, Bool.false_eq_true]), (by rw [hL_1, hq]), hLF, (by first | exact Nat.le_zero.mp hk9 | omega)⟩) dX8_settle_39 (Nat.le_of_ble_eq_true rfl) (Nat.le_of_ble_eq_true rfl)
        · replace c_3 : stT F 4 = false := bB_e0 c_3
          refine g_aload_n hC dX8_settle_16 0 rfl gRef_r 17 rfl ?_
          refine g_callv (g_V (As := []) (rest := []) hC mvX8_bit q3092 (gOf.of hC.K cI7 hL_0) (met_T_bitA l G ML o av asp ak aik atx le am mn aa pl ato F (by rw [hF]; exact hok i (by omega)) hL_0 hL_1) ⟨rfl, rfl⟩ ⟨(Nat.le_of_ble_eq_true rfl), (Nat.le_of_ble_eq_true rfl)⟩ rfl (Nat.le_of_ble_eq_true rfl) dX8_settle_17 rfl ⟨(Nat.le_of_ble_eq_true rfl), (Nat.le_of_ble_eq_true rfl)⟩) 0 (Nat.le_of_ble_eq_true rfl) 0 (Nat.le_of_ble_eq_true rfl) 20 rfl (fun M5 k6 hp7 => ?_)
          obtain ⟨hc9, hF10, hk11⟩ := hp7
          obtain ⟨F12, eF13⟩ : ∃ z, z = T_bit F := ⟨_, rfl⟩
          rw [← eF13] at hc9
          refine g_iinc hC dX8_settle_20 1 rfl (v := nI (i + 1)) (by rw [ki_1]; exact nI_a (a := i) (b := 1) (c := (i + 1)) (by omega)) (Nat.le_of_ble_eq_true rfl) [(1, .int (nI (i + 1))), (0, .ref o)] rfl 23 rfl ?_
          refine g_goto hC dX8_settle_23 2 rfl ?_
          refine gJ.sub (M' := M5) [1, 0] rfl ?_
          exact ih (i + 1) F12 M5 (by omega) (by rw [eF13, hF]; rfl) (by rw [← hr, show 1000 - i = (1000 - (i + 1)) + 1 by omega]; simp only [stlT, c_3, eF13, if_false, Bool.false_eq_true]) (by omega) (hF10 _ _ _ hL_0 (gno (gne_oa hL_0 hL_1) gno0)) hc9 (hLF.trans (hF10.mono (by intro b t hb; simp at hb ⊢; first | done | (rcases hb with rfl | rfl | rfl | rfl <;> simp) | (simp [hb]; done))))
  refine gJ.sub (M' := M) [1, 0] rfl ?_
  exact loop2 _ 0 f M (by omega) rfl rfl (Nat.lt_succ_self _) hM_0 hM_1 gFr.refl
