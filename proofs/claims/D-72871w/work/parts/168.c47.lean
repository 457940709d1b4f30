/-! the public methods: cancel -/
set_option maxRecDepth 100000
set_option maxHeartbeats 4000000 in
theorem met_X_cancel_n (l : Launch) (G : gG) (M : gM) (xa : Nat) (sv : Nat) (ms : Nat) (tx : Nat) (le : Int32) (ta : Nat) (of : Nat) (f : Nat → Int32) (q : Nat) (x : Int32) (id : Int32) (hx : ¬ (0 ≤ x ∧ x ≤ 3)) (hM_0 : M xa = some ((8, 0), .inr (0, [.ref of, .ref sv, .ref ms, .ref tx, .int le]))) : Met l yX0_cancel (ws_ yX0_cancel cX0_cancel 3 (some .int)) ({ frames := 2, cells := 0, slots := 0, locals := 45 }) (gPc G [.ref xa, .int x, .int id] M) (gQi G (fun r9 M9 k9 => r9 = (-1) ∧ M9 = M ∧ k9 = 0)) 0 0 (gA G) := by
  refine gMet [(0, .ref xa), (1, .int x), (2, .int id)] (by decide) (Nat.le_of_ble_eq_true rfl) rfl ?_
  intro p e s m below meth c hC
  refine g_iload_n hC dX0_cancel_0 1 rfl 1 rfl ?_
  refine g_calliP (g_S (As := [.int x]) (rest := []) hC msX0_isNode q550 (met_X_isNode l G M x) ⟨rfl, rfl⟩ ⟨(Nat.le_of_ble_eq_true rfl), (Nat.le_of_ble_eq_true rfl)⟩ rfl (Nat.le_of_ble_eq_true rfl) dX0_cancel_1 rfl ⟨(Nat.le_of_ble_eq_true rfl), (Nat.le_of_ble_eq_true rfl)⟩) 4 rfl 0 (Nat.le_of_ble_eq_true rfl) ?_
  refine g_if_eq hC dX0_cancel_4 23 rfl 7 rfl (fun c_1 => ?_) (fun c_1 => ?_)
  · replace c_1 := bId_0 c_1
    refine g_iconst hC dX0_cancel_23 ki_m1 24 rfl ?_
    exact g_iret (v := -1) hC (fun k9 hk9 => ⟨rfl, rfl, Nat.le_zero.mp hk9⟩) dX0_cancel_24 (Nat.le_of_ble_eq_true rfl) (Nat.le_of_ble_eq_true rfl)
  · replace c_1 := bId_1 c_1
    exact absurd c_1 hx
set_option maxHeartbeats 4000000 in
theorem met_X_cancel (l : Launch) (G : gG) (M : gM) (xa : Nat) (sv : Nat) (ms : Nat) (tx : Nat) (le : Int32) (ta : Nat) (of : Nat) (f : Nat → Int32) (q : Nat) (k : Nat) (id : Int32) (nw : Nat) (hta : 2 ≤ ta ∧ ta < 9) (hk : k < 4) (hnw : f (256 * k + 23) = nI nw) (hnw4 : nw ≤ 4) (hM_0 : M xa = some ((8, 0), .inr (0, [.ref of, .ref sv, .ref ms, .ref tx, .int le]))) (hP_0 : busR M G ta of f q) : Met l yX0_cancel (ws_ yX0_cancel cX0_cancel 3 (some .int)) ({ frames := 8, cells := 3, slots := 14, locals := 211 }) (gPc G [.ref xa, .int (nI k), .int id] M) (gQi G (fun r9 M9 k9 => r9 = (nI (cnT k id nw f nw 0).2) ∧ busR M9 G ta of ((cnT k id nw f nw 0).1) q ∧ gFr (gT (fun t => t.1 = ta ∨ t.1 = 9)) M M9 ∧ k9 ≤ 3)) 3 14 (gA G) := by
  refine gMet [(0, .ref xa), (1, .int (nI k)), (2, .int id)] (by decide) (Nat.le_of_ble_eq_true rfl) rfl ?_
  intro p e s m below meth c hC
  refine g_iload_n hC dX0_cancel_0 1 rfl 1 rfl ?_
  refine g_calliP (g_S (As := [.int (nI k)]) (rest := []) hC msX0_isNode q550 (met_X_isNode l G M (nI k)) ⟨rfl, rfl⟩ ⟨(Nat.le_of_ble_eq_true rfl), (Nat.le_of_ble_eq_true rfl)⟩ rfl (Nat.le_of_ble_eq_true rfl) dX0_cancel_1 rfl ⟨(Nat.le_of_ble_eq_true rfl), (Nat.le_of_ble_eq_true rfl)⟩) 4 rfl 0 (Nat.le_of_ble_eq_true rfl) ?_
  refine g_if_eq hC dX0_cancel_4 23 rfl 7 rfl (fun c_1 => ?_) (fun c_1 => ?_)
  · replace c_1 := bId_0 c_1
    exact absurd (nk_in hk) c_1
  · replace c_1 := bId_1 c_1
    obtain ⟨bn_z2, bd_z2, bh_z2, nd_z2, tn_z2, pl_z2, ol_z2, rv_z2, A_z2, x_z2, b0_z2, b1_z2, hA_z2, hN_z2, hR_z2, ht_z2, hl_z2, hp_z2, hW_z2⟩ := busR.nd hP_0 hta (show k < 4 by omega)
    have hph9 := (relN.ph hR_z2).2
    have hnW := nw_eq hR_z2 hnw hnw4
    have hC9 := relN.canc (id := id) hR_z2
    rw [hnW] at hC9
    refine g_aload_n hC dX0_cancel_7 0 rfl gRef_r 8 rfl ?_
    refine g_get (v := .ref of) hC cI0 hM_0 0 (Nat.le_of_ble_eq_true rfl) q517 rfl dX0_cancel_8 11 rfl ?_
    refine g_getN (v := .ref bn_z2) hC cI1 b0_z2 0 (Nat.le_of_ble_eq_true rfl) q470 rfl dX0_cancel_11 14 rfl ?_
    refine g_iload_n hC dX0_cancel_14 1 rfl 15 rfl ?_
    refine g_aldq (r := some nd_z2) hC b1_z2 4 rfl (vp_in_nI (by omega) (by omega)) ((congrArg A_z2 (nI_clamp (by omega))).trans hA_z2) dX0_cancel_15 16 rfl ?_
    refine g_iload_n hC dX0_cancel_16 2 rfl 17 rfl ?_
    refine g_calli (g_V (As := [.int id]) (rest := []) hC mvX2_cancel q1225 (isNd.cls hC.K hN_z2) (met_N_cancel l G M ta k of nd_z2 x_z2 id hta hph9 hN_z2) ⟨rfl, rfl⟩ ⟨(Nat.le_of_ble_eq_true rfl), (Nat.le_of_ble_eq_true rfl)⟩ rfl (Nat.le_of_ble_eq_true rfl) dX0_cancel_17 rfl ⟨(Nat.le_of_ble_eq_true rfl), (Nat.le_of_ble_eq_true rfl)⟩) 3 (Nat.le_of_ble_eq_true rfl) 14 (Nat.le_of_ble_eq_true rfl) 20 rfl (fun r6 M3 k4 hp5 => ?_)
    obtain ⟨rfl, hpd7, hF8, hk9⟩ := hp5
    refine g_goto hC dX0_cancel_20 24 rfl ?_
    exact g_iret (v := nI x_z2.W.length - nI (nCanW x_z2 id).length) hC (fun k9 hk9 => ⟨(by rw [hnW]; exact nI_s (by omega)), (hW_z2 _ _ _ _ (Nat.le_refl _) (show gFr (gT (ndT9 ta k)) M M3 from (gFr.refl.trans (hF8.mono (fun b t h => by obtain ⟨u9, v9⟩ := t; revert h; (try simp only [ndT, tgE, gT, tgR, ndT9, ndW, tg0, Prod.mk.injEq, true_and, and_true, cpyT]); first | done | omega | (simp; done) | (intro h; simp_all; done))))) hpd7 hC9.1 hC9.2.2), (gFr.refl.trans (hF8.mono (fun b t h => by obtain ⟨u9, v9⟩ := t; revert h; (try simp only [ndT, tgE, gT, tgR, ndT9, ndW, tg0, Prod.mk.injEq, true_and, and_true, cpyT]); first | done | omega | (simp; done) | (intro h; simp_all; done)))), (by first | exact Nat.le_zero.mp hk9 | omega)⟩) dX0_cancel_24 (Nat.le_of_ble_eq_true rfl) (Nat.le_of_ble_eq_true rfl)
