/-! the public methods: faultPosition, load -/
set_option maxRecDepth 100000
set_option maxHeartbeats 4000000 in
theorem met_X_faultPosition (l : Launch) (G : gG) (M : gM) (xa : Nat) (of : Nat) (sv : Nat) (ms : Nat) (tx : Nat) (lc : Nat) (txf : Nat → Int32) (hlc : lc ≤ 120) (htx : ∀ q, 0 ≤ txf q ∧ txf q ≤ 127) (hf : fltT (hereT txf lc) lc (lc + 1) 0 = -5) (hM_0 : M xa = some ((8, 0), .inr (0, [.ref of, .ref sv, .ref ms, .ref tx, .int (nI lc)]))) (hM_1 : M tx = some ((8, 5), .inl (gcs G 1, 120, .inl txf))) : Met l yX0_faultPosition (wsW_ yX0_faultPosition cX0_faultPosition 2 (some .int) [(0, 14, 15, 311)]) ({ frames := 6, cells := 31, slots := 402, locals := 135 }) (gPc G [.ref xa] M) (gQi G (fun r9 M9 k9 => r9 = (fltT (hereT txf lc) lc (lc + 1) 0) ∧ gFr (gT (fun t => t.1 = 7)) M M9 ∧ k9 ≤ 31)) 31 402 (gA G) := by
  refine gMetH [(0, .ref xa)] (by decide) (Nat.le_of_ble_eq_true rfl) rfl ?_
  intro p e s m below meth c hC hTB
  refine g_new hC cI14 q2727 q2728 q166 df14 (7, 0) (Nat.le_of_ble_eq_true rfl) (Nat.le_of_ble_eq_true rfl) 1 (Nat.le_of_ble_eq_true rfl) 2 (Nat.le_of_ble_eq_true rfl) dX0_faultPosition_0 3 rfl (fun a1 M2 hN3 => ?_)
  refine g_dup hC dX0_faultPosition_3 rfl 4 rfl ?_
  refine g_aload_n hC dX0_faultPosition_4 0 rfl gRef_r 5 rfl ?_
  refine g_callv (g_IN (As := [.ref xa]) (rest := [.ref a1]) hC miX18_init q2729 (met_Rd_init l G M2 a1 xa hN3.2.1) ⟨rfl, rfl⟩ ⟨(Nat.le_of_ble_eq_true rfl), (Nat.le_of_ble_eq_true rfl)⟩ rfl (Nat.le_of_ble_eq_true rfl) dX0_faultPosition_5 rfl ⟨(Nat.le_of_ble_eq_true rfl), (Nat.le_of_ble_eq_true rfl)⟩) 1 (Nat.le_of_ble_eq_true rfl) 2 (Nat.le_of_ble_eq_true rfl) 8 rfl (fun M4 k5 hp6 => ?_)
  obtain ⟨hc8, hF9, hk10⟩ := hp6
  refine g_callq (g_V (As := []) (rest := []) hC mvX18_all q2740 (gOf.of hC.K cI14 hc8) (met_Rd_all l G M4 a1 xa of sv ms tx lc txf hlc htx hf hc8 (hF9 _ _ _ (hN3.n hM_0) (gno (hN3.ne hM_0) gno0)) (hF9 _ _ _ (hN3.n hM_1) (gno (hN3.ne hM_1) gno0))) ⟨rfl, rfl⟩ ⟨(Nat.le_of_ble_eq_true rfl), (Nat.le_of_ble_eq_true rfl)⟩ rfl (Nat.le_of_ble_eq_true rfl) dX0_faultPosition_8 rfl ⟨(Nat.le_of_ble_eq_true rfl), (Nat.le_of_ble_eq_true rfl)⟩) 31 (Nat.le_of_ble_eq_true rfl) 402 (Nat.le_of_ble_eq_true rfl) 11 rfl (fun r14 M11 k12 hp13 => ?_)
  obtain ⟨al_15, ad_16, mz_17, W_18, rfl, hc19, hc20, hpd21, hF22, hq23, hq24, hk25⟩ := hp13
  have hH26 := (hF22 _ _ _ hc8 (show ¬ (fun t => t.1 = 7) (7, 0) by (try simp only [ndT, tgE, gT, tgR, ndT9, ndW, tg0, Prod.mk.injEq, true_and, and_true, cpyT, msT]); first | done | omega | (simp; done) | simp_all))
  have hH27 := (hF22 _ _ _ (hF9 _ _ _ (hN3.n hM_0) (gno (hN3.ne hM_0) gno0)) (show ¬ (fun t => t.1 = 7) (8, 0) by (try simp only [ndT, tgE, gT, tgR, ndT9, ndW, tg0, Prod.mk.injEq, true_and, and_true, cpyT, msT]); first | done | omega | (simp; done) | simp_all))
  have hH28 := (hF22 _ _ _ (hF9 _ _ _ (hN3.n hM_1) (gno (hN3.ne hM_1) gno0)) (show ¬ (fun t => t.1 = 7) (8, 5) by (try simp only [ndT, tgE, gT, tgR, ndT9, ndW, tg0, Prod.mk.injEq, true_and, and_true, cpyT, msT]); first | done | omega | (simp; done) | simp_all))
  refine g_astore_n hC dX0_faultPosition_11 rfl gRef_r (Nat.le_of_ble_eq_true rfl) [(1, .ref al_15), (0, .ref xa)] rfl 12 rfl ?_
  refine g_bipush hC dX0_faultPosition_12 kb_m5 14 rfl ?_
  exact g_iret (v := -5) hC (fun k9 hk9 => ⟨hf.symm, (((gFr.refl.nw hN3).trf hF9 (fun b t e hb hn => (gno (hN3.ne (gFr.refl b t e hb hn)) gno0))).trans (hF22.mono (fun b t h => by obtain ⟨u9, v9⟩ := t; revert h; (try simp only [ndT, tgE, gT, tgR, ndT9, ndW, tg0, Prod.mk.injEq, true_and, and_true, cpyT, msT]); first | done | omega | (simp; done) | (intro h; simp_all; done)))), (by first | exact Nat.le_zero.mp hk9 | omega)⟩) dX0_faultPosition_14 (Nat.le_of_ble_eq_true rfl) (Nat.le_of_ble_eq_true rfl)
set_option maxHeartbeats 4000000 in
theorem met_X_faultPosition_x (l : Launch) (G : gG) (M : gM) (xa : Nat) (of : Nat) (sv : Nat) (ms : Nat) (tx : Nat) (lc : Nat) (txf : Nat → Int32) (pf : Nat) (hlc : lc ≤ 120) (htx : ∀ q, 0 ≤ txf q ∧ txf q ≤ 127) (hpf : pf ≤ 135) (hf : fltT (hereT txf lc) lc (lc + 1) 0 = nI pf) (hM_0 : M xa = some ((8, 0), .inr (0, [.ref of, .ref sv, .ref ms, .ref tx, .int (nI lc)]))) (hM_1 : M tx = some ((8, 5), .inl (gcs G 1, 120, .inl txf))) : Met l yX0_faultPosition (wsW_ yX0_faultPosition cX0_faultPosition 2 (some .int) [(0, 14, 15, 311)]) ({ frames := 9, cells := 31, slots := 402, locals := 188 }) (gPc G [.ref xa] M) (gQi G (fun r9 M9 k9 => r9 = (fltT (hereT txf lc) lc (lc + 1) 0) ∧ gFr (gT (fun t => t.1 = 7)) M M9 ∧ k9 ≤ 31)) 31 402 (gA G) := by
  refine gMetH [(0, .ref xa)] (by decide) (Nat.le_of_ble_eq_true rfl) rfl ?_
  intro p e s m below meth c hC hTB
  refine g_new hC cI14 q2727 q2728 q166 df14 (7, 0) (Nat.le_of_ble_eq_true rfl) (Nat.le_of_ble_eq_true rfl) 1 (Nat.le_of_ble_eq_true rfl) 2 (Nat.le_of_ble_eq_true rfl) dX0_faultPosition_0 3 rfl (fun a1 M2 hN3 => ?_)
  refine g_dup hC dX0_faultPosition_3 rfl 4 rfl ?_
  refine g_aload_n hC dX0_faultPosition_4 0 rfl gRef_r 5 rfl ?_
  refine g_callv (g_IN (As := [.ref xa]) (rest := [.ref a1]) hC miX18_init q2729 (met_Rd_init l G M2 a1 xa hN3.2.1) ⟨rfl, rfl⟩ ⟨(Nat.le_of_ble_eq_true rfl), (Nat.le_of_ble_eq_true rfl)⟩ rfl (Nat.le_of_ble_eq_true rfl) dX0_faultPosition_5 rfl ⟨(Nat.le_of_ble_eq_true rfl), (Nat.le_of_ble_eq_true rfl)⟩) 1 (Nat.le_of_ble_eq_true rfl) 2 (Nat.le_of_ble_eq_true rfl) 8 rfl (fun M4 k5 hp6 => ?_)
  obtain ⟨hc8, hF9, hk10⟩ := hp6
  refine g_callC hC (g_VX (As := []) (rest := []) hC mvX18_all q2740 (gOf.of hC.K cI14 hc8) (met_Rd_all_x l G M4 a1 xa of sv ms tx lc txf pf hlc htx hpf hf hc8 (hF9 _ _ _ (hN3.n hM_0) (gno (hN3.ne hM_0) gno0)) (hF9 _ _ _ (hN3.n hM_1) (gno (hN3.ne hM_1) gno0))) ⟨rfl, rfl⟩ ⟨(Nat.le_of_ble_eq_true rfl), (Nat.le_of_ble_eq_true rfl)⟩ rfl (Nat.le_of_ble_eq_true rfl) dX0_faultPosition_8 rfl ⟨(Nat.le_of_ble_eq_true rfl), (Nat.le_of_ble_eq_true rfl)⟩) hTB (by decide) (by decide) q2726 q2782 31 (Nat.le_of_ble_eq_true rfl) 402 (Nat.le_of_ble_eq_true rfl) 15 rfl (fun q11 M12 k13 hp14 => ?_)
  obtain ⟨hc15, hF16, hk17⟩ := hp14
  have hH18 := (hF16 _ _ _ hc8 (show ¬ (fun t => t.1 = 7) (7, 0) by (try simp only [ndT, tgE, gT, tgR, ndT9, ndW, tg0, Prod.mk.injEq, true_and, and_true, cpyT, msT]); first | done | omega | (simp; done) | simp_all))
  have hH19 := (hF16 _ _ _ (hF9 _ _ _ (hN3.n hM_0) (gno (hN3.ne hM_0) gno0)) (show ¬ (fun t => t.1 = 7) (8, 0) by (try simp only [ndT, tgE, gT, tgR, ndT9, ndW, tg0, Prod.mk.injEq, true_and, and_true, cpyT, msT]); first | done | omega | (simp; done) | simp_all))
  have hH20 := (hF16 _ _ _ (hF9 _ _ _ (hN3.n hM_1) (gno (hN3.ne hM_1) gno0)) (show ¬ (fun t => t.1 = 7) (8, 5) by (try simp only [ndT, tgE, gT, tgR, ndT9, ndW, tg0, Prod.mk.injEq, true_and, and_true, cpyT, msT]); first | done | omega | (simp; done) | simp_all))
  refine g_astore_n hC dX0_faultPosition_15 rfl gRef_r (Nat.le_of_ble_eq_true rfl) [(1, .ref q11), (0, .ref xa)] rfl 16 rfl ?_
  refine g_aload_n hC dX0_faultPosition_16 0 rfl gRef_r 17 rfl ?_
  refine g_getN (v := .int (nI pf)) hC cI15 hc15 6 (Nat.le_of_ble_eq_true rfl) q2799 rfl dX0_faultPosition_17 20 rfl ?_
  exact g_iret (v := nI pf) hC (fun k9 hk9 => ⟨hf.symm, (((gFr.refl.nw hN3).trf hF9 (fun b t e hb hn => (gno (hN3.ne (gFr.refl b t e hb hn)) gno0))).trans (hF16.mono (fun b t h => by obtain ⟨u9, v9⟩ := t; revert h; (try simp only [ndT, tgE, gT, tgR, ndT9, ndW, tg0, Prod.mk.injEq, true_and, and_true, cpyT, msT]); first | done | omega | (simp; done) | (intro h; simp_all; done)))), (by first | exact Nat.le_zero.mp hk9 | omega)⟩) dX0_faultPosition_20 (Nat.le_of_ble_eq_true rfl) (Nat.le_of_ble_eq_true rfl)
set_option maxHeartbeats 4000000 in
theorem met_X_load_f (l : Launch) (G : gG) (M : gM) (xa : Nat) (of : Nat) (sv : Nat) (ms : Nat) (tx : Nat) (lc : Nat) (txf : Nat → Int32) (pf : Nat) (hlc : lc ≤ 120) (htx : ∀ q, 0 ≤ txf q ∧ txf q ≤ 127) (hpf : pf ≤ 135) (hf : fltT (hereT txf lc) lc (lc + 1) 0 = nI pf) (hM_0 : M xa = some ((8, 0), .inr (0, [.ref of, .ref sv, .ref ms, .ref tx, .int (nI lc)]))) (hM_1 : M tx = some ((8, 5), .inl (gcs G 1, 120, .inl txf))) : Met l yX0_load (wsW_ yX0_load cX0_load 5 (some .int) [(0, 12, 15, 311)]) ({ frames := 9, cells := 31, slots := 402, locals := 188 }) (gPc G [.ref xa] M) (gQi G (fun r9 M9 k9 => r9 = (-1000 - nI pf) ∧ gFr (gT (fun t => t.1 = 7)) M M9 ∧ k9 ≤ 31)) 31 402 (gA G) := by
  refine gMetH [(0, .ref xa)] (by decide) (Nat.le_of_ble_eq_true rfl) rfl ?_
  intro p e s m below meth c hC hTB
  refine g_new hC cI14 q2727 q2728 q166 df14 (7, 0) (Nat.le_of_ble_eq_true rfl) (Nat.le_of_ble_eq_true rfl) 1 (Nat.le_of_ble_eq_true rfl) 2 (Nat.le_of_ble_eq_true rfl) dX0_load_0 3 rfl (fun a1 M2 hN3 => ?_)
  refine g_dup hC dX0_load_3 rfl 4 rfl ?_
  refine g_aload_n hC dX0_load_4 0 rfl gRef_r 5 rfl ?_
  refine g_callv (g_IN (As := [.ref xa]) (rest := [.ref a1]) hC miX18_init q2729 (met_Rd_init l G M2 a1 xa hN3.2.1) ⟨rfl, rfl⟩ ⟨(Nat.le_of_ble_eq_true rfl), (Nat.le_of_ble_eq_true rfl)⟩ rfl (Nat.le_of_ble_eq_true rfl) dX0_load_5 rfl ⟨(Nat.le_of_ble_eq_true rfl), (Nat.le_of_ble_eq_true rfl)⟩) 1 (Nat.le_of_ble_eq_true rfl) 2 (Nat.le_of_ble_eq_true rfl) 8 rfl (fun M4 k5 hp6 => ?_)
  obtain ⟨hc8, hF9, hk10⟩ := hp6
  refine g_callC hC (g_VX (As := []) (rest := []) hC mvX18_all q2740 (gOf.of hC.K cI14 hc8) (met_Rd_all_x l G M4 a1 xa of sv ms tx lc txf pf hlc htx hpf hf hc8 (hF9 _ _ _ (hN3.n hM_0) (gno (hN3.ne hM_0) gno0)) (hF9 _ _ _ (hN3.n hM_1) (gno (hN3.ne hM_1) gno0))) ⟨rfl, rfl⟩ ⟨(Nat.le_of_ble_eq_true rfl), (Nat.le_of_ble_eq_true rfl)⟩ rfl (Nat.le_of_ble_eq_true rfl) dX0_load_8 rfl ⟨(Nat.le_of_ble_eq_true rfl), (Nat.le_of_ble_eq_true rfl)⟩) hTB (by decide) (by decide) q2726 q2782 31 (Nat.le_of_ble_eq_true rfl) 402 (Nat.le_of_ble_eq_true rfl) 15 rfl (fun q11 M12 k13 hp14 => ?_)
  obtain ⟨hc15, hF16, hk17⟩ := hp14
  have hH18 := (hF16 _ _ _ hc8 (show ¬ (fun t => t.1 = 7) (7, 0) by (try simp only [ndT, tgE, gT, tgR, ndT9, ndW, tg0, Prod.mk.injEq, true_and, and_true, cpyT, msT]); first | done | omega | (simp; done) | simp_all))
  have hH19 := (hF16 _ _ _ (hF9 _ _ _ (hN3.n hM_0) (gno (hN3.ne hM_0) gno0)) (show ¬ (fun t => t.1 = 7) (8, 0) by (try simp only [ndT, tgE, gT, tgR, ndT9, ndW, tg0, Prod.mk.injEq, true_and, and_true, cpyT, msT]); first | done | omega | (simp; done) | simp_all))
  have hH20 := (hF16 _ _ _ (hF9 _ _ _ (hN3.n hM_1) (gno (hN3.ne hM_1) gno0)) (show ¬ (fun t => t.1 = 7) (8, 5) by (try simp only [ndT, tgE, gT, tgR, ndT9, ndW, tg0, Prod.mk.injEq, true_and, and_true, cpyT, msT]); first | done | omega | (simp; done) | simp_all))
  refine g_astore_n hC dX0_load_15 rfl gRef_r (Nat.le_of_ble_eq_true rfl) [(2, .ref q11), (0, .ref xa)] rfl 16 rfl ?_
  refine g_sipush hC dX0_load_16 ks_m1000 19 rfl ?_
  refine g_aload_n hC dX0_load_19 0 rfl gRef_r 20 rfl ?_
  refine g_getN (v := .int (nI pf)) hC cI15 hc15 6 (Nat.le_of_ble_eq_true rfl) q2799 rfl dX0_load_20 23 rfl ?_
  refine g_isub hC dX0_load_23 24 rfl ?_
  exact g_iret (v := (-1000) - (nI pf)) hC (fun k9 hk9 => ⟨(by first | rfl | (simp only [if_true, if_false, true_and, and_true, false_and, and_false, true_or, or_true, false_or, or_false, not_true_eq_false, not_false_eq_true, reduceIte, decide_true, decide_false, Bool.false_eq_true]; done) | (simp only [if_true, if_false, true_and, and_true, false_and, and_false, true_or, or_true, false_or, or_false, not_true_eq_false, not_false_eq_true, reduceIte, decide_true, decide_false, Bool.false_eq_true]; rfl) | (simp only [if_true, if_false, true_and, and_true, false_and, and_false, true_or, or_true, false_or, or_false, not_true_eq_false, not_false_eq_true, reduceIte, decide_true, decide_false, Bool.false_eq_true]; done) | (simp only []; simp only [if_true, if_false, true_and, and_true, false_and, and_false, true_or, or_true, false_or, or_false, not_true_eq_false, not_false_eq_true, reduceIte, decide_true, decide_false, Bool.false_eq_true]; done) | (simp only []; simp only [if_true, if_false, true_and, and_true, false_and, and_false, true_or, or_true, false_or, or_false, not_true_eq_false, not_false_eq_true, reduceIte, decide_true, decide_false, Bool.false_eq_true]; done) | (simp only []; simp only [if_true, if_false, true_and, and_true, false_and, and_false, true_or, or_true, false_or, or_false, not_true_eq_false, not_false_eq_true, reduceIte, decide_true, decide_false, Bool.false_eq_true]; simp only []; done) | (simp only [if_true, if_false, true_and, and_true, false_and, and_false, true_or, or_true, false_or, or_false, not_true_eq_false, not_false_eq_true, reduceIte, decide_true, decide_false, Bool.false_eq_true]; rfl) | (simp only []; simp only [if_true, if_false, true_and, and_true, false_and, and_false, true_or, or_true, false_or, or_false, not_true_eq_false, not_false_eq_true, reduceIte, decide_true, decide_false, Bool.false_eq_true]; rfl) | (simp only []; rfl) | (simp only [if_true, if_false, true_and, and_true, false_and, and_false, true_or, or_true, false_or, or_false, not_true_eq_false, not_false_eq_true, reduceIte, decide_true, decide_false, Bool.false_eq_true]; rfl) | (simp_all []; done)), (((gFr.refl.nw hN3).trf hF9 (fun b t e hb hn => (gno (hN3.ne (gFr.refl b t e hb hn)) gno0))).trans (hF16.mono (fun b t h => by obtain ⟨u9, v9⟩ := t; revert h; (try simp only [ndT, tgE, gT, tgR, ndT9, ndW, tg0, Prod.mk.injEq, true_and, and_true, cpyT, msT]); first | done | omega | (simp; done) | (intro h; simp_all; done)))), (by first | exact Nat.le_zero.mp hk9 | omega)⟩) dX0_load_24 (Nat.le_of_ble_eq_true rfl) (Nat.le_of_ble_eq_true rfl)
set_option maxHeartbeats 4000000 in
theorem met_X_request_g (l : Launch) (G : gG) (M : gM) (xa : Nat) (sv : Nat) (ms : Nat) (tx : Nat) (le : Int32) (ta : Nat) (of : Nat) (f : Nat → Int32) (q : Nat) (k : Nat) (id : Int32) (rm : Bool) (ln : Int32) (da : Int32) (nw : Nat) (hta : 2 ≤ ta ∧ ta < 9) (hk : k < 4) (hq : q < 1000000) (hnw : f (256 * k + 23) = nI nw) (hnw4 : nw ≤ 4) (hok : okF id rm ln da) (hn3 : nw < 4) (hM_0 : M xa = some ((8, 0), .inr (0, [.ref of, .ref sv, .ref ms, .ref tx, .int le]))) (hP_0 : busR M G ta of f q) : Met l yX0_request (ws_ yX0_request cX0_request 7 (some .int)) ({ frames := 8, cells := 1, slots := 5, locals := 210 }) (gPc G [.ref xa, .int (nI k), .int id, .int (bI rm), .int ln, .int da] M) (gQi G (fun r9 M9 k9 => r9 = (nI (nw + 1)) ∧ busR M9 G ta of (T_waits f k id (if rm = true then 1 else 0) ln da nw) (q + 1) ∧ gFr (gT (fun t => t.1 = ta ∨ t.1 = 9)) M M9 ∧ k9 ≤ 1)) 1 5 (gA G) := by
  refine gMono_i (met_X_request l G M xa sv ms tx le ta of f q k id rm ln da nw hta hk hq hnw hnw4 hM_0 hP_0) ?_
  intro r9 M9 k9 ⟨e1, hb, hF, hk9⟩
  rw [if_pos hok, if_pos hn3, waits_23, hnw, nI_a (a := nw) (b := 1) rfl] at e1
  rw [if_pos ⟨hok, hn3⟩] at hb
  exact ⟨e1, hb, hF, hk9⟩
set_option maxHeartbeats 4000000 in
theorem met_X_request_u (l : Launch) (G : gG) (M : gM) (xa : Nat) (sv : Nat) (ms : Nat) (tx : Nat) (le : Int32) (ta : Nat) (of : Nat) (f : Nat → Int32) (q : Nat) (k : Nat) (id : Int32) (rm : Bool) (ln : Int32) (da : Int32) (nw : Nat) (hta : 2 ≤ ta ∧ ta < 9) (hk : k < 4) (hq : q < 1000000) (hnw : f (256 * k + 23) = nI nw) (hnw4 : nw ≤ 4) (hok : okF id rm ln da) (hn3 : ¬ nw < 4) (hM_0 : M xa = some ((8, 0), .inr (0, [.ref of, .ref sv, .ref ms, .ref tx, .int le]))) (hP_0 : busR M G ta of f q) : Met l yX0_request (ws_ yX0_request cX0_request 7 (some .int)) ({ frames := 8, cells := 1, slots := 5, locals := 210 }) (gPc G [.ref xa, .int (nI k), .int id, .int (bI rm), .int ln, .int da] M) (gQi G (fun r9 M9 k9 => r9 = (-3) ∧ busR M9 G ta of f (q + 1) ∧ gFr (gT (fun t => t.1 = ta ∨ t.1 = 9)) M M9 ∧ k9 ≤ 1)) 1 5 (gA G) := by
  refine gMono_i (met_X_request l G M xa sv ms tx le ta of f q k id rm ln da nw hta hk hq hnw hnw4 hM_0 hP_0) ?_
  intro r9 M9 k9 ⟨e1, hb, hF, hk9⟩
  rw [if_pos hok, if_neg hn3] at e1
  rw [if_neg (fun z => hn3 z.2)] at hb
  exact ⟨e1, hb, hF, hk9⟩
def ldL (l : List rqR) (s : (Nat → Int32) × Nat) : (Nat → Int32) × Nat := l.foldl (fun s t => ldS s.1 s.2 t) s
theorem ldL_t {W : List wtE} {i : Nat} {e : wtE} {s : (Nat → Int32) × Nat} (h : W[i]? = some e) : ldL ((W.take (i + 1)).map Prod.snd) s = ldS (ldL ((W.take i).map Prod.snd) s).1 (ldL ((W.take i).map Prod.snd) s).2 e.2 := by
  unfold ldL
  rw [List.take_add_one, h, List.map_append, List.foldl_append]
  rfl
theorem rmI {t : Int32} (h : t = 0 ∨ t = 1) : (if decide (t = 1) = true then (1 : Int32) else 0) = t := by
  rcases h with rfl | rfl <;> decide
theorem wsT_okR {h : Nat → Int32} {lc : Nat} : (F p : Nat) → ∀ t ∈ wsT h lc F p, okR t
  | 0, p, t, ht => nomatch ht
  | F + 1, p, t, ht => by
    unfold wsT at ht
    split at ht
    · split at ht
      · cases ht
      · rename_i t' e
        rcases List.mem_cons.mp ht with q | q
        · rw [q]; exact rqT_okR e
        · exact wsT_okR F _ t q
    · cases ht
theorem okAll.nw {f : Nat → Int32} (h : okAll f) {k : Nat} (hk : k < 4) : f (256 * k + 23) = nI (nNw f k) ∧ nNw f k ≤ 4 := (h.1 k hk).2.2.2.2.2.1
theorem nw_lt {n : Nat} (h : n ≤ 4) : nI n < 4 ↔ n < 4 := nI_ltI (a := n) (b := 4) (by omega) (by omega)
set_option maxHeartbeats 4000000 in
theorem met_X_load (l : Launch) (G : gG) (M : gM) (xa : Nat) (of : Nat) (sv : Nat) (ms : Nat) (tx : Nat) (lc : Nat) (txf : Nat → Int32) (ta : Nat) (f : Nat → Int32) (q : Nat) (hlc : lc ≤ 120) (htx : ∀ q, 0 ≤ txf q ∧ txf q ≤ 127) (hf : fltT (hereT txf lc) lc (lc + 1) 0 = -5) (hta : 2 ≤ ta ∧ ta < 7) (hq : q < 999000) (hM_0 : M xa = some ((8, 0), .inr (0, [.ref of, .ref sv, .ref ms, .ref tx, .int (nI lc)]))) (hM_1 : M tx = some ((8, 5), .inl (gcs G 1, 120, .inl txf))) (hP_0 : busR M G ta of f q) : Met l yX0_load (wsW_ yX0_load cX0_load 5 (some .int) [(0, 12, 15, 311)]) ({ frames := 9, cells := 60, slots := 700, locals := 236 }) (gPc G [.ref xa] M) (gQi G (fun r9 M9 k9 => r9 = (nI (ldT (hereT txf lc) lc (lc + 1) 0 (f, 0)).2) ∧ busR M9 G ta of ((ldT (hereT txf lc) lc (lc + 1) 0 (f, 0)).1) (q + 17) ∧ gFr (gT (fun t => t.1 = ta ∨ t.1 = 7 ∨ t.1 = 9)) M M9 ∧ k9 ≤ 60)) 60 700 (gA G) := by
  refine gMetH [(0, .ref xa)] (by decide) (Nat.le_of_ble_eq_true rfl) rfl ?_
  intro p e s m below meth c hC hTB
  refine g_new hC cI14 q2727 q2728 q166 df14 (7, 0) (Nat.le_of_ble_eq_true rfl) (Nat.le_of_ble_eq_true rfl) 1 (Nat.le_of_ble_eq_true rfl) 2 (Nat.le_of_ble_eq_true rfl) dX0_load_0 3 rfl (fun a1 M2 hN3 => ?_)
  refine g_dup hC dX0_load_3 rfl 4 rfl ?_
  refine g_aload_n hC dX0_load_4 0 rfl gRef_r 5 rfl ?_
  refine g_callv (g_IN (As := [.ref xa]) (rest := [.ref a1]) hC miX18_init q2729 (met_Rd_init l G M2 a1 xa hN3.2.1) ⟨rfl, rfl⟩ ⟨(Nat.le_of_ble_eq_true rfl), (Nat.le_of_ble_eq_true rfl)⟩ rfl (Nat.le_of_ble_eq_true rfl) dX0_load_5 rfl ⟨(Nat.le_of_ble_eq_true rfl), (Nat.le_of_ble_eq_true rfl)⟩) 1 (Nat.le_of_ble_eq_true rfl) 2 (Nat.le_of_ble_eq_true rfl) 8 rfl (fun M4 k5 hp6 => ?_)
  obtain ⟨hc8, hF9, hk10⟩ := hp6
  refine g_callq (g_V (As := []) (rest := []) hC mvX18_all q2740 (gOf.of hC.K cI14 hc8) (met_Rd_all l G M4 a1 xa of sv ms tx lc txf hlc htx hf hc8 (hF9 _ _ _ (hN3.n hM_0) (gno (hN3.ne hM_0) gno0)) (hF9 _ _ _ (hN3.n hM_1) (gno (hN3.ne hM_1) gno0))) ⟨rfl, rfl⟩ ⟨(Nat.le_of_ble_eq_true rfl), (Nat.le_of_ble_eq_true rfl)⟩ rfl (Nat.le_of_ble_eq_true rfl) dX0_load_8 rfl ⟨(Nat.le_of_ble_eq_true rfl), (Nat.le_of_ble_eq_true rfl)⟩) 31 (Nat.le_of_ble_eq_true rfl) 402 (Nat.le_of_ble_eq_true rfl) 11 rfl (fun r14 M11 k12 hp13 => ?_)
  obtain ⟨al_15, ad_16, mz_17, W_18, rfl, hc19, hc20, hpd21, hF22, hq23, hq24, hk25⟩ := hp13
  have hH26 := (hF22 _ _ _ hc8 (show ¬ (fun t => t.1 = 7) (7, 0) by (try simp only [ndT, tgE, gT, tgR, ndT9, ndW, tg0, Prod.mk.injEq, true_and, and_true, cpyT, msT]); first | done | omega | (simp; done) | simp_all))
  have hH27 := (hF22 _ _ _ (hF9 _ _ _ (hN3.n hM_0) (gno (hN3.ne hM_0) gno0)) (show ¬ (fun t => t.1 = 7) (8, 0) by (try simp only [ndT, tgE, gT, tgR, ndT9, ndW, tg0, Prod.mk.injEq, true_and, and_true, cpyT, msT]); first | done | omega | (simp; done) | simp_all))
  have hH28 := (hF22 _ _ _ (hF9 _ _ _ (hN3.n hM_1) (gno (hN3.ne hM_1) gno0)) (show ¬ (fun t => t.1 = 7) (8, 5) by (try simp only [ndT, tgE, gT, tgR, ndT9, ndW, tg0, Prod.mk.injEq, true_and, and_true, cpyT, msT]); first | done | omega | (simp; done) | simp_all))
  have hH29 : busR M11 G ta of f q := (busR.fr hP_0 (((gFr.refl.nw hN3).trf hF9 (fun b t e hb hn => (gno (hN3.ne (gFr.refl b t e hb hn)) gno0))).trans (hF22.mono (fun b t h => by obtain ⟨u9, v9⟩ := t; revert h; (try simp only [ndT, tgE, gT, tgR, ndT9, ndW, tg0, Prod.mk.injEq, true_and, and_true, cpyT, msT]); first | done | omega | (simp; done) | (intro h; simp_all; done)))))
  refine g_astore_n hC dX0_load_11 rfl gRef_r (Nat.le_of_ble_eq_true rfl) [(1, .ref al_15), (0, .ref xa)] rfl 12 rfl ?_
  refine g_goto hC dX0_load_12 25 rfl ?_
  refine g_iconst hC dX0_load_25 ki_0 26 rfl ?_
  refine g_istore_n hC dX0_load_26 rfl (Nat.le_of_ble_eq_true rfl) [(2, .int 0), (1, .ref al_15), (0, .ref xa)] rfl 27 rfl ?_
  refine g_aload_n hC dX0_load_27 1 rfl gRef_r 28 rfl ?_
  refine g_callq (g_V (As := []) (rest := []) hC mvJ42_iterator q2879 (gOf.of hC.K cI29 hc19) (met_AL_iterator l G M11 al_15 ad_16 mz_17 W_18.length hc19) ⟨rfl, rfl⟩ ⟨(Nat.le_of_ble_eq_true rfl), (Nat.le_of_ble_eq_true rfl)⟩ rfl (Nat.le_of_ble_eq_true rfl) dX0_load_28 rfl ⟨(Nat.le_of_ble_eq_true rfl), (Nat.le_of_ble_eq_true rfl)⟩) 32 (Nat.le_of_ble_eq_true rfl) 406 (Nat.le_of_ble_eq_true rfl) 31 rfl (fun r33 M30 k31 hp32 => ?_)
  obtain ⟨it_34, rfl, hc35, hF36, hk37⟩ := hp32
  refine g_astore_n hC dX0_load_31 rfl gRef_r (Nat.le_of_ble_eq_true rfl) [(3, .ref it_34), (2, .int 0), (1, .ref al_15), (0, .ref xa)] rfl 32 rfl ?_
  have loop32 : ∀ (n9 : Nat) (i : Nat) (n : Nat) (f2 : Nat → Int32) (lr : Int32) (it : Nat) (qq : Nat) (ML : gM), (hi : i ≤ W_18.length) → (hn : n ≤ i) → (hqq : qq ≤ q + i) → (ht : ldL ((W_18.take i).map Prod.snd) (f, 0) = (f2, n)) → W_18.length - i < n9 → (ML xa = some ((8, 0), .inr (0, [.ref of, .ref sv, .ref ms, .ref tx, .int (nI lc)]))) → (ML it = some ((7, 5), .inr (30, [.int (nI i), .int lr, .int mz_17, .ref al_15]))) → (ML al_15 = some ((7, 3), .inr (29, [.int mz_17, .ref ad_16, .int (nI W_18.length)]))) → (ML ad_16 = some ((7, 4), .inl (gcs G 3, 20, .inr (.inr (.inr (.inr (alA W_18))))))) → (busR ML G ta of f2 qq) → (wfs ML W_18) → gFr (gT (fun t => t.1 = ta ∨ t.1 = 7 ∨ t.1 = 9)) M ML → gJ p l e ({ frames := 9, cells := 60, slots := 700, locals := 236 } : Room) s m ([.ref xa] : List Value).toArray below meth c G 5 (MQ below (gQi G (fun r9 M9 k9 => r9 = (nI (ldT (hereT txf lc) lc (lc + 1) 0 (f, 0)).2) ∧ busR M9 G ta of ((ldT (hereT txf lc) lc (lc + 1) 0 (f, 0)).1) (q + 17) ∧ gFr (gT (fun t => t.1 = ta ∨ t.1 = 7 ∨ t.1 = 9)) M M9 ∧ k9 ≤ 60)) ([.ref xa] : List Value).toArray s 60 700 (gA G)) (i + 32) (10 * i + 460) ML 32 [(0, .ref xa), (1, .ref al_15), (2, .int (nI n)), (3, .ref it)] [] := by
    intro n9
    induction n9 with
    | zero => intro i n f2 lr it qq ML hi hn hqq ht hmu; exact absurd hmu (Nat.not_lt_zero _)
    | succ n9 ih =>
      intro i n f2 lr it qq ML hi hn hqq ht hmu hL_0 hL_1 hL_2 hL_3 hLp_0 hLp_1 hLF
      refine g_aload_n hC dX0_load_32 3 rfl gRef_r 33 rfl ?_
      refine g_callFiP (g_F (n := 0) (As := []) (rest := []) hC ⟨by decide +kernel, q1310, q1312, q150, q1314, by decide +kernel⟩ q2892 (gOf.of hC.K cI30 hL_1) (hC.at cI30) (met_ALi_hasNext l G ML it i lr al_15 ad_16 mz_17 W_18.length hi (by first | assumption | decide | omega | (dsimp only; omega) | simp_all) hL_1 hL_2) ⟨rfl, rfl⟩ ⟨(Nat.le_of_ble_eq_true rfl), (Nat.le_of_ble_eq_true rfl)⟩ rfl (Nat.le_of_ble_eq_true rfl) dX0_load_33 rfl ⟨(by first | omega | (dsimp only; omega)), (by first | omega | (dsimp only; omega))⟩) 38 rfl (10 * i + 460) (by first | omega | (dsimp only; omega)) ?_
      refine g_if_eq hC dX0_load_38 95 rfl 41 rfl (fun c_38 => ?_) (fun c_38 => ?_)
      · replace c_38 := bId_0 c_38
        refine g_iload_n hC dX0_load_95 2 rfl 96 rfl ?_
        exact g_iret (v := nI n) hC (fun k9 hk9 => ⟨(by rw [ld_ws hlc _ _ _ hf, ← hq23]; show _ = nI (ldL _ _).2; rw [← List.take_of_length_le (l := W_18) (i := i) (by omega), ht]), (by rw [ld_ws hlc _ _ _ hf, ← hq23]; show busR _ _ _ _ (ldL _ _).1 _; rw [← List.take_of_length_le (l := W_18) (i := i) (by omega), ht]; exact busR.mono hLp_0 (by omega)), hLF, (by first | exact Nat.le_zero.mp hk9 | omega)⟩) dX0_load_96 (by first | omega | (dsimp only; omega)) (by first | omega | (dsimp only; omega))
      · replace c_38 := bId_1 c_38
        obtain ⟨e9, he9⟩ : ∃ e, W_18[i]? = some e := ⟨_, List.getElem?_eq_getElem c_38⟩
        have hm9 := List.mem_of_getElem? he9
        obtain ⟨⟨kk, hkk, ekk⟩, hrm9, hok9⟩ := wsT_okR _ _ e9.2 (hq23 ▸ List.mem_map.mpr ⟨e9, hm9, rfl⟩)
        obtain ⟨hnw, hnw4⟩ := okAll.nw (busR.ok hLp_0 (by omega)) hkk
        obtain ⟨nw, enw⟩ : ∃ z, z = nNw f2 kk := ⟨_, rfl⟩
        rw [← enw] at hnw hnw4
        have hE39 := hLp_1 e9 hm9
        rw [ekk] at hE39
        by_cases hn3 : nw < 4
        · skip
          refine g_aload_n hC dX0_load_41 3 rfl gRef_r 42 rfl ?_
          refine g_callFq (g_F (n := 0) (As := []) (rest := []) hC ⟨by decide +kernel, q1693, q1695, q150, q1697, by decide +kernel⟩ q2894 (gOf.of hC.K cI30 hL_1) (hC.at cI30) (met_ALi_next l G ML it i lr al_15 ad_16 mz_17 W_18.length (alA W_18) e9.1 c_38 (by first | assumption | decide | omega | (dsimp only; omega) | simp_all) (by simp only [alA, he9]; rfl) hL_1 hL_2 hL_3) ⟨rfl, rfl⟩ ⟨(Nat.le_of_ble_eq_true rfl), (Nat.le_of_ble_eq_true rfl)⟩ rfl (Nat.le_of_ble_eq_true rfl) dX0_load_42 rfl ⟨(by first | omega | (dsimp only; omega)), (by first | omega | (dsimp only; omega))⟩) (i + 32) (by first | omega | (dsimp only; omega)) (10 * i + 460) (by first | omega | (dsimp only; omega)) 47 rfl (fun r43 M40 k41 hp42 => ?_)
          obtain ⟨rfl, hc44, hF45, hk46⟩ := hp42
          refine g_castS hC (hC.at cI16) (gOf.of hC.K cI16 (hF45 _ _ _ hE39 (gno (gne_c hE39 hL_1 (by decide)) gno0))) q2895 dX0_load_47 50 rfl ?_
          refine g_astore hC dX0_load_50 gRef_r (Nat.le_of_ble_eq_true rfl) [(4, .ref e9.1), (0, .ref xa), (1, .ref al_15), (2, .int (nI n)), (3, .ref it)] rfl 52 rfl ?_
          refine g_iload_n hC dX0_load_52 3 rfl 53 rfl ?_
          refine g_aload_n hC dX0_load_53 1 rfl gRef_r 54 rfl ?_
          refine g_aload hC dX0_load_54 0 rfl gRef_r 56 rfl ?_
          refine g_getN (v := .int (nI kk)) hC cI16 (hF45 _ _ _ hE39 (gno (gne_c hE39 hL_1 (by decide)) gno0)) 0 (Nat.le_of_ble_eq_true rfl) q2830 rfl dX0_load_56 59 rfl ?_
          refine g_aload hC dX0_load_59 0 rfl gRef_r 61 rfl ?_
          refine g_getN (v := .int e9.2.2.1) hC cI16 (hF45 _ _ _ hE39 (gno (gne_c hE39 hL_1 (by decide)) gno0)) 1 (Nat.le_of_ble_eq_true rfl) q2832 rfl dX0_load_61 64 rfl ?_
          refine g_aload hC dX0_load_64 0 rfl gRef_r 66 rfl ?_
          refine g_getN (v := .int (bI (decide (e9.2.2.2.1 = 1)))) hC cI16 (hF45 _ _ _ hE39 (gno (gne_c hE39 hL_1 (by decide)) gno0)) 2 (Nat.le_of_ble_eq_true rfl) q2834 rfl dX0_load_66 69 rfl ?_
          refine g_aload hC dX0_load_69 0 rfl gRef_r 71 rfl ?_
          refine g_getN (v := .int e9.2.2.2.2.1) hC cI16 (hF45 _ _ _ hE39 (gno (gne_c hE39 hL_1 (by decide)) gno0)) 3 (Nat.le_of_ble_eq_true rfl) q2836 rfl dX0_load_71 74 rfl ?_
          refine g_aload hC dX0_load_74 0 rfl gRef_r 76 rfl ?_
          refine g_getN (v := .int e9.2.2.2.2.2) hC cI16 (hF45 _ _ _ hE39 (gno (gne_c hE39 hL_1 (by decide)) gno0)) 4 (Nat.le_of_ble_eq_true rfl) q2838 rfl dX0_load_76 79 rfl ?_
          refine g_calli (g_V (As := [.int (nI kk), .int e9.2.2.1, .int (bI (decide (e9.2.2.2.1 = 1))), .int e9.2.2.2.2.1, .int e9.2.2.2.2.2]) (rest := [.int (nI n)]) hC mvX0_request q2896 (gOf.of hC.K cI0 (hF45 _ _ _ hL_0 (gno (gne_c hL_0 hL_1 (by decide)) gno0))) (met_X_request_g l G M40 xa sv ms tx (nI lc) ta of f2 qq kk e9.2.2.1 (decide (e9.2.2.2.1 = 1)) e9.2.2.2.2.1 e9.2.2.2.2.2 nw (by first | assumption | decide | omega | (dsimp only; omega) | simp_all) hkk (by omega) hnw hnw4 hok9 hn3 (hF45 _ _ _ hL_0 (gno (gne_c hL_0 hL_1 (by decide)) gno0)) (busR.fr hLp_0 (gFr.refl.trf hF45 (fun b t e hb hn => (gno (gne_t (gFr.refl b t e hb hn) hL_1 (fun q => hn (by rw [q]; exact (show (fun t => ¬ (fun t => t.1 = ta ∨ tg0 t) t) (7, 5) by (try simp only [ndT, tgE, gT, tgR, ndT9, ndW, tg0, Prod.mk.injEq, true_and, and_true, cpyT, msT]); first | done | omega | (simp; done))))) gno0))))) ⟨rfl, rfl⟩ ⟨(Nat.le_of_ble_eq_true rfl), (Nat.le_of_ble_eq_true rfl)⟩ rfl (Nat.le_of_ble_eq_true rfl) dX0_load_79 rfl ⟨(by first | omega | (dsimp only; omega)), (by first | omega | (dsimp only; omega))⟩) (i + 32 + 1) (by first | omega | (dsimp only; omega)) (10 * i + 460 + 5) (by first | omega | (dsimp only; omega)) 82 rfl (fun r50 M47 k48 hp49 => ?_)
          obtain ⟨rfl, hpd51, hF52, hk53⟩ := hp49
          refine g_if_le hC dX0_load_82 89 rfl 85 rfl (fun c_54 => ?_) (fun c_54 => ?_)
          · exact absurd (show nw + 1 ≤ 0 from nn_le (by omega) (by omega) c_54) (by omega)
          · replace c_54 : 0 < nw + 1 := nn_nle (by omega) (by omega) c_54
            refine g_iconst hC dX0_load_85 ki_1 86 rfl ?_
            refine g_goto hC dX0_load_86 90 rfl ?_
            refine g_iadd hC dX0_load_90 91 rfl ?_
            refine g_topi (y := nI (n + 1)) (nI_a (a := n) (b := 1) (c := (n + 1)) (by omega)) ?_
            refine g_istore_n hC dX0_load_91 rfl (Nat.le_of_ble_eq_true rfl) [(2, .int (nI (n + 1))), (4, .ref e9.1), (0, .ref xa), (1, .ref al_15), (3, .ref it)] rfl 92 rfl ?_
            refine g_goto hC dX0_load_92 32 rfl ?_
            refine gJ.sub (M' := M47) [2, 3, 0, 4] rfl ?_
            refine gJ.widen (k := (i + 1) + 32) (n := 10 * (i + 1) + 460) (by first | omega | (dsimp only; omega)) (by first | omega | (dsimp only; omega)) ?_
            exact ih (i + 1) (n + 1) (T_waits f2 kk e9.2.2.1 (if (decide (e9.2.2.2.1 = 1)) = true then 1 else 0) e9.2.2.2.2.1 e9.2.2.2.2.2 nw) (nI i) it (qq + 1) M47 (by omega) (by omega) (by omega) (by rw [ldL_t he9, ht]; show ldS f2 n e9.2 = _; rw [ldS_go hkk ekk hnw4 hnw (by rw [hnw]; exact (nw_lt hnw4).mpr hn3), rmI hrm9]) (by omega) (hF52 _ _ _ (hF45 _ _ _ hL_0 (gno (gne_c hL_0 hL_1 (by decide)) gno0)) (show ¬ (fun t => t.1 = ta ∨ t.1 = 9) (8, 0) by (try simp only [ndT, tgE, gT, tgR, ndT9, ndW, tg0, Prod.mk.injEq, true_and, and_true, cpyT, msT]); first | done | omega | (simp; done) | simp_all)) (hF52 _ _ _ hc44 (show ¬ (fun t => t.1 = ta ∨ t.1 = 9) (7, 5) by (try simp only [ndT, tgE, gT, tgR, ndT9, ndW, tg0, Prod.mk.injEq, true_and, and_true, cpyT, msT]); first | done | omega | (simp; done) | simp_all)) (hF52 _ _ _ (hF45 _ _ _ hL_2 (gno (gne_c hL_2 hL_1 (by decide)) gno0)) (show ¬ (fun t => t.1 = ta ∨ t.1 = 9) (7, 3) by (try simp only [ndT, tgE, gT, tgR, ndT9, ndW, tg0, Prod.mk.injEq, true_and, and_true, cpyT, msT]); first | done | omega | (simp; done) | simp_all)) (hF52 _ _ _ (hF45 _ _ _ hL_3 (gno (gne_ao hL_3 hL_1) gno0)) (show ¬ (fun t => t.1 = ta ∨ t.1 = 9) (7, 4) by (try simp only [ndT, tgE, gT, tgR, ndT9, ndW, tg0, Prod.mk.injEq, true_and, and_true, cpyT, msT]); first | done | omega | (simp; done) | simp_all)) hpd51 (wfs.fr hLp_1 ((gFr.refl.trf hF45 (fun b t e hb hn => (gno (gne_t (gFr.refl b t e hb hn) hL_1 (fun q => hn (by rw [q]; exact (show (fun t => ¬ (tgE 7 2) t) (7, 5) by (try simp only [ndT, tgE, gT, tgR, ndT9, ndW, tg0, Prod.mk.injEq, true_and, and_true, cpyT, msT]); first | done | omega | (simp; done))))) gno0))).trans (hF52.mono (fun b t h => by obtain ⟨u9, v9⟩ := t; revert h; (try simp only [ndT, tgE, gT, tgR, ndT9, ndW, tg0, Prod.mk.injEq, true_and, and_true, cpyT, msT]); first | done | omega | (simp; done) | (intro h; simp_all; done))))) (hLF.trans ((gFr.refl.trf hF45 (fun b t e hb hn => (gno (gne_t (gFr.refl b t e hb hn) hL_1 (fun q => hn (by rw [q]; exact (show (fun t => t.1 = ta ∨ t.1 = 7 ∨ t.1 = 9) (7, 5) by (try simp only [ndT, tgE, gT, tgR, ndT9, ndW, tg0, Prod.mk.injEq, true_and, and_true, cpyT, msT]); first | done | omega | (simp; done))))) gno0))).trans (hF52.mono (fun b t h => by obtain ⟨u9, v9⟩ := t; revert h; (try simp only [ndT, tgE, gT, tgR, ndT9, ndW, tg0, Prod.mk.injEq, true_and, and_true, cpyT, msT]); first | done | omega | (simp; done) | (intro h; simp_all; done)))))
        · skip
          refine g_aload_n hC dX0_load_41 3 rfl gRef_r 42 rfl ?_
          refine g_callFq (g_F (n := 0) (As := []) (rest := []) hC ⟨by decide +kernel, q1693, q1695, q150, q1697, by decide +kernel⟩ q2894 (gOf.of hC.K cI30 hL_1) (hC.at cI30) (met_ALi_next l G ML it i lr al_15 ad_16 mz_17 W_18.length (alA W_18) e9.1 c_38 (by first | assumption | decide | omega | (dsimp only; omega) | simp_all) (by simp only [alA, he9]; rfl) hL_1 hL_2 hL_3) ⟨rfl, rfl⟩ ⟨(Nat.le_of_ble_eq_true rfl), (Nat.le_of_ble_eq_true rfl)⟩ rfl (Nat.le_of_ble_eq_true rfl) dX0_load_42 rfl ⟨(by first | omega | (dsimp only; omega)), (by first | omega | (dsimp only; omega))⟩) (i + 32) (by first | omega | (dsimp only; omega)) (10 * i + 460) (by first | omega | (dsimp only; omega)) 47 rfl (fun r58 M55 k56 hp57 => ?_)
          obtain ⟨rfl, hc59, hF60, hk61⟩ := hp57
          refine g_castS hC (hC.at cI16) (gOf.of hC.K cI16 (hF60 _ _ _ hE39 (gno (gne_c hE39 hL_1 (by decide)) gno0))) q2895 dX0_load_47 50 rfl ?_
          refine g_astore hC dX0_load_50 gRef_r (Nat.le_of_ble_eq_true rfl) [(4, .ref e9.1), (0, .ref xa), (1, .ref al_15), (2, .int (nI n)), (3, .ref it)] rfl 52 rfl ?_
          refine g_iload_n hC dX0_load_52 3 rfl 53 rfl ?_
          refine g_aload_n hC dX0_load_53 1 rfl gRef_r 54 rfl ?_
          refine g_aload hC dX0_load_54 0 rfl gRef_r 56 rfl ?_
          refine g_getN (v := .int (nI kk)) hC cI16 (hF60 _ _ _ hE39 (gno (gne_c hE39 hL_1 (by decide)) gno0)) 0 (Nat.le_of_ble_eq_true rfl) q2830 rfl dX0_load_56 59 rfl ?_
          refine g_aload hC dX0_load_59 0 rfl gRef_r 61 rfl ?_
          refine g_getN (v := .int e9.2.2.1) hC cI16 (hF60 _ _ _ hE39 (gno (gne_c hE39 hL_1 (by decide)) gno0)) 1 (Nat.le_of_ble_eq_true rfl) q2832 rfl dX0_load_61 64 rfl ?_
          refine g_aload hC dX0_load_64 0 rfl gRef_r 66 rfl ?_
          refine g_getN (v := .int (bI (decide (e9.2.2.2.1 = 1)))) hC cI16 (hF60 _ _ _ hE39 (gno (gne_c hE39 hL_1 (by decide)) gno0)) 2 (Nat.le_of_ble_eq_true rfl) q2834 rfl dX0_load_66 69 rfl ?_
          refine g_aload hC dX0_load_69 0 rfl gRef_r 71 rfl ?_
          refine g_getN (v := .int e9.2.2.2.2.1) hC cI16 (hF60 _ _ _ hE39 (gno (gne_c hE39 hL_1 (by decide)) gno0)) 3 (Nat.le_of_ble_eq_true rfl) q2836 rfl dX0_load_71 74 rfl ?_
          refine g_aload hC dX0_load_74 0 rfl gRef_r 76 rfl ?_
          refine g_getN (v := .int e9.2.2.2.2.2) hC cI16 (hF60 _ _ _ hE39 (gno (gne_c hE39 hL_1 (by decide)) gno0)) 4 (Nat.le_of_ble_eq_true rfl) q2838 rfl dX0_load_76 79 rfl ?_
          refine g_calli (g_V (As := [.int (nI kk), .int e9.2.2.1, .int (bI (decide (e9.2.2.2.1 = 1))), .int e9.2.2.2.2.1, .int e9.2.2.2.2.2]) (rest := [.int (nI n)]) hC mvX0_request q2896 (gOf.of hC.K cI0 (hF60 _ _ _ hL_0 (gno (gne_c hL_0 hL_1 (by decide)) gno0))) (met_X_request_u l G M55 xa sv ms tx (nI lc) ta of f2 qq kk e9.2.2.1 (decide (e9.2.2.2.1 = 1)) e9.2.2.2.2.1 e9.2.2.2.2.2 nw (by first | assumption | decide | omega | (dsimp only; omega) | simp_all) hkk (by omega) hnw hnw4 hok9 hn3 (hF60 _ _ _ hL_0 (gno (gne_c hL_0 hL_1 (by decide)) gno0)) (busR.fr hLp_0 (gFr.refl.trf hF60 (fun b t e hb hn => (gno (gne_t (gFr.refl b t e hb hn) hL_1 (fun q => hn (by rw [q]; exact (show (fun t => ¬ (fun t => t.1 = ta ∨ tg0 t) t) (7, 5) by (try simp only [ndT, tgE, gT, tgR, ndT9, ndW, tg0, Prod.mk.injEq, true_and, and_true, cpyT, msT]); first | done | omega | (simp; done))))) gno0))))) ⟨rfl, rfl⟩ ⟨(Nat.le_of_ble_eq_true rfl), (Nat.le_of_ble_eq_true rfl)⟩ rfl (Nat.le_of_ble_eq_true rfl) dX0_load_79 rfl ⟨(by first | omega | (dsimp only; omega)), (by first | omega | (dsimp only; omega))⟩) (i + 32 + 1) (by first | omega | (dsimp only; omega)) (10 * i + 460 + 5) (by first | omega | (dsimp only; omega)) 82 rfl (fun r65 M62 k63 hp64 => ?_)
          obtain ⟨rfl, hpd66, hF67, hk68⟩ := hp64
          refine g_if_le hC dX0_load_82 89 rfl 85 rfl (fun c_69 => ?_) (fun c_69 => ?_)
          · refine g_iconst hC dX0_load_89 ki_0 90 rfl ?_
            refine g_iadd hC dX0_load_90 91 rfl ?_
            refine g_topi (y := nI n) (nI_a (a := n) (b := 0) (c := n) (by omega)) ?_
            refine g_istore_n hC dX0_load_91 rfl (Nat.le_of_ble_eq_true rfl) [(2, .int (nI n)), (4, .ref e9.1), (0, .ref xa), (1, .ref al_15), (3, .ref it)] rfl 92 rfl ?_
            refine g_goto hC dX0_load_92 32 rfl ?_
            refine gJ.sub (M' := M62) [2, 3, 0, 4] rfl ?_
            refine gJ.widen (k := (i + 1) + 32) (n := 10 * (i + 1) + 460) (by first | omega | (dsimp only; omega)) (by first | omega | (dsimp only; omega)) ?_
            exact ih (i + 1) n f2 (nI i) it (qq + 1) M62 (by omega) (by omega) (by omega) (by rw [ldL_t he9, ht]; show ldS f2 n e9.2 = _; rw [ldS_no hkk ekk (by rw [hnw]; exact fun q9 => hn3 ((nw_lt hnw4).mp q9))]) (by omega) (hF67 _ _ _ (hF60 _ _ _ hL_0 (gno (gne_c hL_0 hL_1 (by decide)) gno0)) (show ¬ (fun t => t.1 = ta ∨ t.1 = 9) (8, 0) by (try simp only [ndT, tgE, gT, tgR, ndT9, ndW, tg0, Prod.mk.injEq, true_and, and_true, cpyT, msT]); first | done | omega | (simp; done) | simp_all)) (hF67 _ _ _ hc59 (show ¬ (fun t => t.1 = ta ∨ t.1 = 9) (7, 5) by (try simp only [ndT, tgE, gT, tgR, ndT9, ndW, tg0, Prod.mk.injEq, true_and, and_true, cpyT, msT]); first | done | omega | (simp; done) | simp_all)) (hF67 _ _ _ (hF60 _ _ _ hL_2 (gno (gne_c hL_2 hL_1 (by decide)) gno0)) (show ¬ (fun t => t.1 = ta ∨ t.1 = 9) (7, 3) by (try simp only [ndT, tgE, gT, tgR, ndT9, ndW, tg0, Prod.mk.injEq, true_and, and_true, cpyT, msT]); first | done | omega | (simp; done) | simp_all)) (hF67 _ _ _ (hF60 _ _ _ hL_3 (gno (gne_ao hL_3 hL_1) gno0)) (show ¬ (fun t => t.1 = ta ∨ t.1 = 9) (7, 4) by (try simp only [ndT, tgE, gT, tgR, ndT9, ndW, tg0, Prod.mk.injEq, true_and, and_true, cpyT, msT]); first | done | omega | (simp; done) | simp_all)) hpd66 (wfs.fr hLp_1 ((gFr.refl.trf hF60 (fun b t e hb hn => (gno (gne_t (gFr.refl b t e hb hn) hL_1 (fun q => hn (by rw [q]; exact (show (fun t => ¬ (tgE 7 2) t) (7, 5) by (try simp only [ndT, tgE, gT, tgR, ndT9, ndW, tg0, Prod.mk.injEq, true_and, and_true, cpyT, msT]); first | done | omega | (simp; done))))) gno0))).trans (hF67.mono (fun b t h => by obtain ⟨u9, v9⟩ := t; revert h; (try simp only [ndT, tgE, gT, tgR, ndT9, ndW, tg0, Prod.mk.injEq, true_and, and_true, cpyT, msT]); first | done | omega | (simp; done) | (intro h; simp_all; done))))) (hLF.trans ((gFr.refl.trf hF60 (fun b t e hb hn => (gno (gne_t (gFr.refl b t e hb hn) hL_1 (fun q => hn (by rw [q]; exact (show (fun t => t.1 = ta ∨ t.1 = 7 ∨ t.1 = 9) (7, 5) by (try simp only [ndT, tgE, gT, tgR, ndT9, ndW, tg0, Prod.mk.injEq, true_and, and_true, cpyT, msT]); first | done | omega | (simp; done))))) gno0))).trans (hF67.mono (fun b t h => by obtain ⟨u9, v9⟩ := t; revert h; (try simp only [ndT, tgE, gT, tgR, ndT9, ndW, tg0, Prod.mk.injEq, true_and, and_true, cpyT, msT]); first | done | omega | (simp; done) | (intro h; simp_all; done)))))
          · exact absurd c_69 (by decide)
  refine gJ.sub (M' := M30) [3, 2, 1, 0] rfl ?_
  refine gJ.widen (k := 0 + 32) (n := 10 * 0 + 460) (by first | omega | (dsimp only; omega)) (by first | omega | (dsimp only; omega)) ?_
  exact loop32 _ 0 0 f (-1) it_34 q M30 (by omega) (by omega) (by omega) rfl (Nat.lt_succ_self _) (hF36 _ _ _ hH27 gno0) hc35 (hF36 _ _ _ hc19 gno0) (hF36 _ _ _ hc20 gno0) (busR.fr hH29 (gFr.refl.trf hF36 (fun b t e hb hn => gno0))) (wfs.fr hpd21 (gFr.refl.trf hF36 (fun b t e hb hn => gno0))) ((((gFr.refl.nw hN3).trf hF9 (fun b t e hb hn => (gno (hN3.ne (gFr.refl b t e hb hn)) gno0))).trans (hF22.mono (fun b t h => by obtain ⟨u9, v9⟩ := t; revert h; (try simp only [ndT, tgE, gT, tgR, ndT9, ndW, tg0, Prod.mk.injEq, true_and, and_true, cpyT, msT]); first | done | omega | (simp; done) | (intro h; simp_all; done)))).trf hF36 (fun b t e hb hn => gno0))
