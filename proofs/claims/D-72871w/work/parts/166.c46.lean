/-! the public methods: bitsUntilSent, save, restore -/
set_option maxRecDepth 100000
set_option maxHeartbeats 4000000 in
theorem met_X_bus_n (l : Launch) (G : gG) (M : gM) (xa : Nat) (sv : Nat) (ms : Nat) (tx : Nat) (le : Int32) (ta : Nat) (of : Nat) (f : Nat → Int32) (q : Nat) (x : Int32) (hx : ¬ (0 ≤ x ∧ x ≤ 3)) (hM_0 : M xa = some ((8, 0), .inr (0, [.ref of, .ref sv, .ref ms, .ref tx, .int le]))) : Met l yX0_bitsUntilSent (ws_ yX0_bitsUntilSent cX0_bitsUntilSent 2 (some .int)) ({ frames := 2, cells := 0, slots := 0, locals := 45 }) (gPc G [.ref xa, .int x] M) (gQi G (fun r9 M9 k9 => r9 = (-1) ∧ M9 = M ∧ k9 = 0)) 0 0 (gA G) := by
  refine gMet [(0, .ref xa), (1, .int x)] (by decide) (Nat.le_of_ble_eq_true rfl) rfl ?_
  intro p e s m below meth c hC
  refine g_iload_n hC dX0_bitsUntilSent_0 1 rfl 1 rfl ?_
  refine g_calliP (g_S (As := [.int x]) (rest := []) hC msX0_isNode q550 (met_X_isNode l G M x) ⟨rfl, rfl⟩ ⟨(Nat.le_of_ble_eq_true rfl), (Nat.le_of_ble_eq_true rfl)⟩ rfl (Nat.le_of_ble_eq_true rfl) dX0_bitsUntilSent_1 rfl ⟨(Nat.le_of_ble_eq_true rfl), (Nat.le_of_ble_eq_true rfl)⟩) 4 rfl 0 (Nat.le_of_ble_eq_true rfl) ?_
  refine g_if_eq hC dX0_bitsUntilSent_4 25 rfl 7 rfl (fun c_1 => ?_) (fun c_1 => ?_)
  · replace c_1 := bId_0 c_1
    refine g_iconst hC dX0_bitsUntilSent_25 ki_m1 26 rfl ?_
    exact g_iret (v := -1) hC (fun k9 hk9 => ⟨rfl, rfl, Nat.le_zero.mp hk9⟩) dX0_bitsUntilSent_26 (Nat.le_of_ble_eq_true rfl) (Nat.le_of_ble_eq_true rfl)
  · replace c_1 := bId_1 c_1
    exact absurd c_1 hx
set_option maxHeartbeats 4000000 in
theorem met_X_bus (l : Launch) (G : gG) (M : gM) (xa : Nat) (sv : Nat) (ms : Nat) (tx : Nat) (le : Int32) (ta : Nat) (of : Nat) (f : Nat → Int32) (q : Nat) (k : Nat) (tc : Nat) (hta : 2 ≤ ta ∧ ta < 9) (ht8 : ta < 8) (htc : 2 ≤ tc ∧ tc < 9) (htc8 : tc < 8) (hac : tc ≠ ta) (hk : k < 4) (hq : q < 800000) (hM_0 : M xa = some ((8, 0), .inr (0, [.ref of, .ref sv, .ref ms, .ref tx, .int le]))) (hP_0 : busR M G ta of f q) : Met l yX0_bitsUntilSent (ws_ yX0_bitsUntilSent cX0_bitsUntilSent 2 (some .int)) ({ frames := 18, cells := 9105, slots := 62107, locals := 469 }) (gPc G [.ref xa, .int (nI k)] M) (gQi G (fun r9 M9 k9 => r9 = (if (busT k (f (256 * k + 14)) 1000 0 f).1 (256 * k + 14) ≤ f (256 * k + 14) then -5 else nI (busT k (f (256 * k + 14)) 1000 0 f).2) ∧ busR M9 G ta of f q ∧ gFr (gT (fun t => t.1 = ta ∨ t.1 = tc ∨ t.1 = 9)) M M9 ∧ k9 ≤ 9110)) 9105 62107 (gA G) := by
  refine gMet [(0, .ref xa), (1, .int (nI k))] (by decide) (Nat.le_of_ble_eq_true rfl) rfl ?_
  intro p e s m below meth c hC
  refine g_iload_n hC dX0_bitsUntilSent_0 1 rfl 1 rfl ?_
  refine g_calliP (g_S (As := [.int (nI k)]) (rest := []) hC msX0_isNode q550 (met_X_isNode l G M (nI k)) ⟨rfl, rfl⟩ ⟨(Nat.le_of_ble_eq_true rfl), (Nat.le_of_ble_eq_true rfl)⟩ rfl (Nat.le_of_ble_eq_true rfl) dX0_bitsUntilSent_1 rfl ⟨(Nat.le_of_ble_eq_true rfl), (Nat.le_of_ble_eq_true rfl)⟩) 4 rfl 0 (Nat.le_of_ble_eq_true rfl) ?_
  refine g_if_eq hC dX0_bitsUntilSent_4 25 rfl 7 rfl (fun c_1 => ?_) (fun c_1 => ?_)
  · replace c_1 := bId_0 c_1
    exact absurd (nk_in hk) c_1
  · replace c_1 := bId_1 c_1
    refine g_new hC cI1 q178 q179 q103 df1 (tc, 100) (Nat.le_of_ble_eq_true rfl) (Nat.le_of_ble_eq_true rfl) 1 (Nat.le_of_ble_eq_true rfl) 7 (Nat.le_of_ble_eq_true rfl) dX0_bitsUntilSent_7 10 rfl (fun a2 M3 hN4 => ?_)
    refine g_dup hC dX0_bitsUntilSent_10 rfl 11 rfl ?_
    refine g_aload_n hC dX0_bitsUntilSent_11 0 rfl gRef_r 12 rfl ?_
    refine g_get (v := .ref of) hC cI0 (hN4.n hM_0) 0 (Nat.le_of_ble_eq_true rfl) q517 rfl dX0_bitsUntilSent_12 15 rfl ?_
    refine g_callv (g_I (As := [.ref of]) (rest := [.ref a2]) hC miX1_init_2 q2466 (met_B_copy l G M3 tc a2 ta of f q htc hta hac hN4.2.1 (busR.fr hP_0 (gFr.refl.nw hN4))) ⟨rfl, rfl⟩ ⟨(Nat.le_of_ble_eq_true rfl), (Nat.le_of_ble_eq_true rfl)⟩ rfl (Nat.le_of_ble_eq_true rfl) dX0_bitsUntilSent_15 rfl ⟨(Nat.le_of_ble_eq_true rfl), (Nat.le_of_ble_eq_true rfl)⟩) 85 (Nat.le_of_ble_eq_true rfl) 1107 (Nat.le_of_ble_eq_true rfl) 18 rfl (fun M5 k6 hp7 => ?_)
    obtain ⟨hpd9, hpd10, hF11, hk12⟩ := hp7
    refine g_iload_n hC dX0_bitsUntilSent_18 1 rfl 19 rfl ?_
    refine g_calli (g_V (As := [.int (nI k)]) (rest := []) hC mvX1_bitsUntilSent q2548 (busR.cls hC.K hpd9) (met_B_bus l G M5 tc a2 f q k htc hk hq hpd9) ⟨rfl, rfl⟩ ⟨(Nat.le_of_ble_eq_true rfl), (Nat.le_of_ble_eq_true rfl)⟩ rfl (Nat.le_of_ble_eq_true rfl) dX0_bitsUntilSent_19 rfl ⟨(Nat.le_of_ble_eq_true rfl), (Nat.le_of_ble_eq_true rfl)⟩) 9105 (Nat.le_of_ble_eq_true rfl) 62107 (Nat.le_of_ble_eq_true rfl) 22 rfl (fun r16 M13 k14 hp15 => ?_)
    obtain ⟨rfl, hF17, hk18⟩ := hp15
    have hH19 := (hF17 _ _ _ (hF11 _ _ _ (hN4.n hM_0) (show ¬ (fun t => t.1 = tc ∨ t.1 = ta ∨ t.1 = 9) (8, 0) by (try simp only [ndT, tgE, gT, tgR, ndT9, ndW, tg0, Prod.mk.injEq, true_and, and_true, cpyT]); first | done | omega | (simp; done) | simp_all)) (show ¬ (fun t => t.1 = tc ∨ t.1 = 9) (8, 0) by (try simp only [ndT, tgE, gT, tgR, ndT9, ndW, tg0, Prod.mk.injEq, true_and, and_true, cpyT]); first | done | omega | (simp; done) | simp_all))
    have hH20 : busR M13 G ta of f q := (busR.fr hpd10 (gFr.refl.trans (hF17.mono (fun b t h => by obtain ⟨u9, v9⟩ := t; revert h; (try simp only [ndT, tgE, gT, tgR, ndT9, ndW, tg0, Prod.mk.injEq, true_and, and_true, cpyT]); first | done | omega | (simp; done) | (intro h; simp_all; done)))))
    refine g_goto hC dX0_bitsUntilSent_22 26 rfl ?_
    exact g_iret (v := if (busT k (f (256 * k + 14)) 1000 0 f).1 (256 * k + 14) ≤ f (256 * k + 14) then -5 else nI (busT k (f (256 * k + 14)) 1000 0 f).2) hC (fun k9 hk9 => ⟨rfl, hH20, (((gFr.refl.nw hN4).trans (hF11.mono (fun b t h => by obtain ⟨u9, v9⟩ := t; revert h; (try simp only [ndT, tgE, gT, tgR, ndT9, ndW, tg0, Prod.mk.injEq, true_and, and_true, cpyT]); first | done | omega | (simp; done) | (intro h; simp_all; done)))).trans (hF17.mono (fun b t h => by obtain ⟨u9, v9⟩ := t; revert h; (try simp only [ndT, tgE, gT, tgR, ndT9, ndW, tg0, Prod.mk.injEq, true_and, and_true, cpyT]); first | done | omega | (simp; done) | (intro h; simp_all; done)))), (by first | exact Nat.le_zero.mp hk9 | omega)⟩) dX0_bitsUntilSent_26 (Nat.le_of_ble_eq_true rfl) (Nat.le_of_ble_eq_true rfl)
set_option maxHeartbeats 4000000 in
theorem met_X_save_n (l : Launch) (G : gG) (M : gM) (xa : Nat) (sv : Nat) (ms : Nat) (tx : Nat) (le : Int32) (ta : Nat) (of : Nat) (f : Nat → Int32) (q : Nat) (x : Int32) (hx : ¬ (0 ≤ x ∧ x ≤ 1)) (hM_0 : M xa = some ((8, 0), .inr (0, [.ref of, .ref sv, .ref ms, .ref tx, .int le]))) : Met l yX0_save (ws_ yX0_save cX0_save 2 (some .int)) ({ frames := 1, cells := 0, slots := 0, locals := 25 }) (gPc G [.ref xa, .int x] M) (gQi G (fun r9 M9 k9 => r9 = (-2) ∧ M9 = M ∧ k9 = 0)) 0 0 (gA G) := by
  refine gMet [(0, .ref xa), (1, .int x)] (by decide) (Nat.le_of_ble_eq_true rfl) rfl ?_
  intro p e s m below meth c hC
  refine g_iload_n hC dX0_save_0 1 rfl 1 rfl ?_
  refine g_i2l hC dX0_save_1 2 rfl ?_
  refine g_lconst (v := 0) hC dX0_save_2 (by decide) 3 rfl ?_
  refine g_lconst (v := 1) hC dX0_save_3 (by decide) 4 rfl ?_
  refine g_calliP (g_S (As := [.long (Int32.toInt64 x), .long 0, .long 1]) (rest := []) hC msX0_isIn q541 (met_isIn l G M (Int32.toInt64 x) 0 1) ⟨rfl, rfl⟩ ⟨(Nat.le_of_ble_eq_true rfl), (Nat.le_of_ble_eq_true rfl)⟩ rfl (Nat.le_of_ble_eq_true rfl) dX0_save_4 rfl ⟨(Nat.le_of_ble_eq_true rfl), (Nat.le_of_ble_eq_true rfl)⟩) 7 rfl 0 (Nat.le_of_ble_eq_true rfl) ?_
  refine g_topi (y := bI (decide (0 ≤ x ∧ x ≤ 1))) (isIn_c 0 1 (by decide) (by decide)) ?_
  refine g_if_ne hC dX0_save_7 13 rfl 10 rfl (fun c_1 => ?_) (fun c_1 => ?_)
  · replace c_1 := bId_1 c_1
    exact absurd c_1 hx
  · replace c_1 := bId_0 c_1
    refine g_bipush hC dX0_save_10 kb_m2 12 rfl ?_
    exact g_iret (v := -2) hC (fun k9 hk9 => ⟨rfl, rfl, Nat.le_zero.mp hk9⟩) dX0_save_12 (Nat.le_of_ble_eq_true rfl) (Nat.le_of_ble_eq_true rfl)
set_option maxHeartbeats 4000000 in
theorem met_X_save (l : Launch) (G : gG) (M : gM) (xa : Nat) (sv : Nat) (ms : Nat) (tx : Nat) (le : Int32) (ta : Nat) (of : Nat) (f : Nat → Int32) (q : Nat) (sl : Nat) (tc : Nat) (A : Nat → Option Nat) (hta : 2 ≤ ta ∧ ta < 9) (ht8 : ta < 8) (htc : 2 ≤ tc ∧ tc < 9) (htc8 : tc < 8) (hac : tc ≠ ta) (hsl : sl ≤ 1) (hM_0 : M xa = some ((8, 0), .inr (0, [.ref of, .ref sv, .ref ms, .ref tx, .int le]))) (hM_1 : M sv = some ((8, 1), .inl (gcs G 5, 2, .inr (.inr (.inr (.inr A)))))) (hP_0 : busR M G ta of f q) : Met l yX0_save (ws_ yX0_save cX0_save 2 (some .int)) ({ frames := 18, cells := 85, slots := 1107, locals := 469 }) (gPc G [.ref xa, .int (nI sl)] M) (gQi G (fun r9 M9 k9 => ∃ ob : Nat, r9 = (f 1024) ∧ M9 sv = some ((8, 1), .inl (gcs G 5, 2, .inr (.inr (.inr (.inr (va_up A sl (some ob))))))) ∧ M9 xa = some ((8, 0), .inr (0, [.ref of, .ref sv, .ref ms, .ref tx, .int le])) ∧ busR M9 G ta of f q ∧ busR M9 G tc ob f q ∧ gFr (gT (fun t => (t.1 = ta ∨ t.1 = tc ∨ t.1 = 9) ∨ tgE 8 1 t)) M M9 ∧ k9 ≤ 85)) 85 1107 (gA G) := by
  refine gMet [(0, .ref xa), (1, .int (nI sl))] (by decide) (Nat.le_of_ble_eq_true rfl) rfl ?_
  intro p e s m below meth c hC
  refine g_iload_n hC dX0_save_0 1 rfl 1 rfl ?_
  refine g_i2l hC dX0_save_1 2 rfl ?_
  refine g_lconst (v := 0) hC dX0_save_2 (by decide) 3 rfl ?_
  refine g_lconst (v := 1) hC dX0_save_3 (by decide) 4 rfl ?_
  refine g_calliP (g_S (As := [.long (Int32.toInt64 (nI sl)), .long 0, .long 1]) (rest := []) hC msX0_isIn q541 (met_isIn l G M (Int32.toInt64 (nI sl)) 0 1) ⟨rfl, rfl⟩ ⟨(Nat.le_of_ble_eq_true rfl), (Nat.le_of_ble_eq_true rfl)⟩ rfl (Nat.le_of_ble_eq_true rfl) dX0_save_4 rfl ⟨(Nat.le_of_ble_eq_true rfl), (Nat.le_of_ble_eq_true rfl)⟩) 7 rfl 0 (Nat.le_of_ble_eq_true rfl) ?_
  refine g_topi (y := bI (decide (0 ≤ nI sl ∧ nI sl ≤ 1))) (isIn_c 0 1 (by decide) (by decide)) ?_
  refine g_if_ne hC dX0_save_7 13 rfl 10 rfl (fun c_1 => ?_) (fun c_1 => ?_)
  · replace c_1 := bId_1 c_1
    refine g_aload_n hC dX0_save_13 0 rfl gRef_r 14 rfl ?_
    refine g_get (v := .ref sv) hC cI0 hM_0 1 (Nat.le_of_ble_eq_true rfl) q518 rfl dX0_save_14 17 rfl ?_
    refine g_iload_n hC dX0_save_17 1 rfl 18 rfl ?_
    refine g_new hC cI1 q178 q179 q103 df1 (tc, 100) (Nat.le_of_ble_eq_true rfl) (Nat.le_of_ble_eq_true rfl) 1 (Nat.le_of_ble_eq_true rfl) 7 (Nat.le_of_ble_eq_true rfl) dX0_save_18 21 rfl (fun a2 M3 hN4 => ?_)
    refine g_dup hC dX0_save_21 rfl 22 rfl ?_
    refine g_aload_n hC dX0_save_22 0 rfl gRef_r 23 rfl ?_
    refine g_get (v := .ref of) hC cI0 (hN4.n hM_0) 0 (Nat.le_of_ble_eq_true rfl) q517 rfl dX0_save_23 26 rfl ?_
    refine g_callv (g_I (As := [.ref of]) (rest := [.ref a2, .int (nI sl), .ref sv]) hC miX1_init_2 q2466 (met_B_copy l G M3 tc a2 ta of f q htc hta hac hN4.2.1 (busR.fr hP_0 (gFr.refl.nw hN4))) ⟨rfl, rfl⟩ ⟨(Nat.le_of_ble_eq_true rfl), (Nat.le_of_ble_eq_true rfl)⟩ rfl (Nat.le_of_ble_eq_true rfl) dX0_save_26 rfl ⟨(Nat.le_of_ble_eq_true rfl), (Nat.le_of_ble_eq_true rfl)⟩) 85 (Nat.le_of_ble_eq_true rfl) 1107 (Nat.le_of_ble_eq_true rfl) 29 rfl (fun M5 k6 hp7 => ?_)
    obtain ⟨hpd9, hpd10, hF11, hk12⟩ := hp7
    refine g_astq hC (hF11 _ _ _ (hN4.n hM_1) (show ¬ (fun t => t.1 = tc ∨ t.1 = ta ∨ t.1 = 9) (8, 1) by (try simp only [ndT, tgE, gT, tgR, ndT9, ndW, tg0, Prod.mk.injEq, true_and, and_true, cpyT]); first | done | omega | (simp; done) | simp_all)) 5 rfl (busR.cls hC.K hpd9) (Or.inl rfl) (vp_in_nI (by omega) (by omega)) sl (nI_clamp (by omega)) dX0_save_29 30 rfl (fun M13 hU14 => ?_)
    have hH15 := (hU14.n (gne_oa (hF11 _ _ _ (hN4.n hM_0) (show ¬ (fun t => t.1 = tc ∨ t.1 = ta ∨ t.1 = 9) (8, 0) by (try simp only [ndT, tgE, gT, tgR, ndT9, ndW, tg0, Prod.mk.injEq, true_and, and_true, cpyT]); first | done | omega | (simp; done) | simp_all)) (hF11 _ _ _ (hN4.n hM_1) (show ¬ (fun t => t.1 = tc ∨ t.1 = ta ∨ t.1 = 9) (8, 1) by (try simp only [ndT, tgE, gT, tgR, ndT9, ndW, tg0, Prod.mk.injEq, true_and, and_true, cpyT]); first | done | omega | (simp; done) | simp_all))) (hF11 _ _ _ (hN4.n hM_0) (show ¬ (fun t => t.1 = tc ∨ t.1 = ta ∨ t.1 = 9) (8, 0) by (try simp only [ndT, tgE, gT, tgR, ndT9, ndW, tg0, Prod.mk.injEq, true_and, and_true, cpyT]); first | done | omega | (simp; done) | simp_all)))
    have hH16 : busR M13 G tc a2 f q := (busR.fr hpd9 (gFr.refl.up hU14 (hF11 _ _ _ (hN4.n hM_1) (show ¬ (fun t => t.1 = tc ∨ t.1 = ta ∨ t.1 = 9) (8, 1) by (try simp only [ndT, tgE, gT, tgR, ndT9, ndW, tg0, Prod.mk.injEq, true_and, and_true, cpyT]); first | done | omega | (simp; done) | simp_all)) (show (fun t => ¬ (fun t => t.1 = tc ∨ tg0 t) t) (8, 1) by (try simp only [ndT, tgE, gT, tgR, ndT9, ndW, tg0, Prod.mk.injEq, true_and, and_true, cpyT]); first | done | omega | (simp; done))))
    have hH17 : busR M13 G ta of f q := (busR.fr hpd10 (gFr.refl.up hU14 (hF11 _ _ _ (hN4.n hM_1) (show ¬ (fun t => t.1 = tc ∨ t.1 = ta ∨ t.1 = 9) (8, 1) by (try simp only [ndT, tgE, gT, tgR, ndT9, ndW, tg0, Prod.mk.injEq, true_and, and_true, cpyT]); first | done | omega | (simp; done) | simp_all)) (show (fun t => ¬ (fun t => t.1 = ta ∨ tg0 t) t) (8, 1) by (try simp only [ndT, tgE, gT, tgR, ndT9, ndW, tg0, Prod.mk.injEq, true_and, and_true, cpyT]); first | done | omega | (simp; done))))
    obtain ⟨bn_z18, bd_z18, bh_z18, tn_z18, pl_z18, ol_z18, rv_z18, hs_z18, b0_z18, b3_z18, ht_z18, hq_z18, hl_z18, hh_z18⟩ := busR.hist hH17
    refine g_aload_n hC dX0_save_30 0 rfl gRef_r 31 rfl ?_
    refine g_get (v := .ref of) hC cI0 hH15 0 (Nat.le_of_ble_eq_true rfl) q517 rfl dX0_save_31 34 rfl ?_
    refine g_getN (v := .int (nI tn_z18)) hC cI1 b0_z18 3 (Nat.le_of_ble_eq_true rfl) q476 rfl dX0_save_34 37 rfl ?_
    exact g_iret (v := nI tn_z18) hC (fun k9 hk9 => ⟨a2, (ht_z18.symm), hU14.1, hH15, hH17, hH16, (((gFr.refl.nw hN4).trans (hF11.mono (fun b t h => by obtain ⟨u9, v9⟩ := t; revert h; (try simp only [ndT, tgE, gT, tgR, ndT9, ndW, tg0, Prod.mk.injEq, true_and, and_true, cpyT]); first | done | omega | (simp; done) | (intro h; simp_all; done)))).up hU14 (hF11 _ _ _ (hN4.n hM_1) (show ¬ (fun t => t.1 = tc ∨ t.1 = ta ∨ t.1 = 9) (8, 1) by (try simp only [ndT, tgE, gT, tgR, ndT9, ndW, tg0, Prod.mk.injEq, true_and, and_true, cpyT]); first | done | omega | (simp; done) | simp_all)) (show (fun t => (t.1 = ta ∨ t.1 = tc ∨ t.1 = 9) ∨ tgE 8 1 t) (8, 1) by (try simp only [ndT, tgE, gT, tgR, ndT9, ndW, tg0, Prod.mk.injEq, true_and, and_true, cpyT]); first | done | omega | (simp; done))), (by first | exact Nat.le_zero.mp hk9 | omega)⟩) dX0_save_37 (Nat.le_of_ble_eq_true rfl) (Nat.le_of_ble_eq_true rfl)
  · replace c_1 := bId_0 c_1
    exact absurd (show 0 ≤ nI sl ∧ nI sl ≤ 1 from ⟨nI_le (a := 0) (by omega) (by omega), nI_le (b := 1) hsl (by omega)⟩) c_1
set_option maxHeartbeats 4000000 in
theorem met_X_restore_n (l : Launch) (G : gG) (M : gM) (xa : Nat) (sv : Nat) (ms : Nat) (tx : Nat) (le : Int32) (ta : Nat) (of : Nat) (f : Nat → Int32) (q : Nat) (x : Int32) (hx : ¬ (0 ≤ x ∧ x ≤ 1)) (hM_0 : M xa = some ((8, 0), .inr (0, [.ref of, .ref sv, .ref ms, .ref tx, .int le]))) : Met l yX0_restore (ws_ yX0_restore cX0_restore 2 (some .int)) ({ frames := 1, cells := 0, slots := 0, locals := 25 }) (gPc G [.ref xa, .int x] M) (gQi G (fun r9 M9 k9 => r9 = (-2) ∧ M9 = M ∧ k9 = 0)) 0 0 (gA G) := by
  refine gMet [(0, .ref xa), (1, .int x)] (by decide) (Nat.le_of_ble_eq_true rfl) rfl ?_
  intro p e s m below meth c hC
  refine g_iload_n hC dX0_restore_0 1 rfl 1 rfl ?_
  refine g_i2l hC dX0_restore_1 2 rfl ?_
  refine g_lconst (v := 0) hC dX0_restore_2 (by decide) 3 rfl ?_
  refine g_lconst (v := 1) hC dX0_restore_3 (by decide) 4 rfl ?_
  refine g_calliP (g_S (As := [.long (Int32.toInt64 x), .long 0, .long 1]) (rest := []) hC msX0_isIn q541 (met_isIn l G M (Int32.toInt64 x) 0 1) ⟨rfl, rfl⟩ ⟨(Nat.le_of_ble_eq_true rfl), (Nat.le_of_ble_eq_true rfl)⟩ rfl (Nat.le_of_ble_eq_true rfl) dX0_restore_4 rfl ⟨(Nat.le_of_ble_eq_true rfl), (Nat.le_of_ble_eq_true rfl)⟩) 7 rfl 0 (Nat.le_of_ble_eq_true rfl) ?_
  refine g_topi (y := bI (decide (0 ≤ x ∧ x ≤ 1))) (isIn_c 0 1 (by decide) (by decide)) ?_
  refine g_if_ne hC dX0_restore_7 13 rfl 10 rfl (fun c_1 => ?_) (fun c_1 => ?_)
  · replace c_1 := bId_1 c_1
    exact absurd c_1 hx
  · replace c_1 := bId_0 c_1
    refine g_bipush hC dX0_restore_10 kb_m2 12 rfl ?_
    exact g_iret (v := -2) hC (fun k9 hk9 => ⟨rfl, rfl, Nat.le_zero.mp hk9⟩) dX0_restore_12 (Nat.le_of_ble_eq_true rfl) (Nat.le_of_ble_eq_true rfl)
set_option maxHeartbeats 4000000 in
theorem met_X_restore_0 (l : Launch) (G : gG) (M : gM) (xa : Nat) (sv : Nat) (ms : Nat) (tx : Nat) (le : Int32) (ta : Nat) (of : Nat) (f : Nat → Int32) (q : Nat) (sl : Nat) (A : Nat → Option Nat) (hsl : sl ≤ 1) (hA : A sl = none) (hM_0 : M xa = some ((8, 0), .inr (0, [.ref of, .ref sv, .ref ms, .ref tx, .int le]))) (hM_1 : M sv = some ((8, 1), .inl (gcs G 5, 2, .inr (.inr (.inr (.inr A)))))) : Met l yX0_restore (ws_ yX0_restore cX0_restore 2 (some .int)) ({ frames := 1, cells := 0, slots := 0, locals := 25 }) (gPc G [.ref xa, .int (nI sl)] M) (gQi G (fun r9 M9 k9 => r9 = (-5) ∧ M9 = M ∧ k9 = 0)) 0 0 (gA G) := by
  refine gMet [(0, .ref xa), (1, .int (nI sl))] (by decide) (Nat.le_of_ble_eq_true rfl) rfl ?_
  intro p e s m below meth c hC
  refine g_iload_n hC dX0_restore_0 1 rfl 1 rfl ?_
  refine g_i2l hC dX0_restore_1 2 rfl ?_
  refine g_lconst (v := 0) hC dX0_restore_2 (by decide) 3 rfl ?_
  refine g_lconst (v := 1) hC dX0_restore_3 (by decide) 4 rfl ?_
  refine g_calliP (g_S (As := [.long (Int32.toInt64 (nI sl)), .long 0, .long 1]) (rest := []) hC msX0_isIn q541 (met_isIn l G M (Int32.toInt64 (nI sl)) 0 1) ⟨rfl, rfl⟩ ⟨(Nat.le_of_ble_eq_true rfl), (Nat.le_of_ble_eq_true rfl)⟩ rfl (Nat.le_of_ble_eq_true rfl) dX0_restore_4 rfl ⟨(Nat.le_of_ble_eq_true rfl), (Nat.le_of_ble_eq_true rfl)⟩) 7 rfl 0 (Nat.le_of_ble_eq_true rfl) ?_
  refine g_topi (y := bI (decide (0 ≤ nI sl ∧ nI sl ≤ 1))) (isIn_c 0 1 (by decide) (by decide)) ?_
  refine g_if_ne hC dX0_restore_7 13 rfl 10 rfl (fun c_1 => ?_) (fun c_1 => ?_)
  · replace c_1 := bId_1 c_1
    refine g_aload_n hC dX0_restore_13 0 rfl gRef_r 14 rfl ?_
    refine g_get (v := .ref sv) hC cI0 hM_0 1 (Nat.le_of_ble_eq_true rfl) q518 rfl dX0_restore_14 17 rfl ?_
    refine g_iload_n hC dX0_restore_17 1 rfl 18 rfl ?_
    refine g_aldq (r := none) hC hM_1 5 rfl (vp_in_nI (by omega) (by omega)) ((congrArg A (nI_clamp (by omega))).trans hA) dX0_restore_18 19 rfl ?_
    refine g_ifnonnull (r := none) hC dX0_restore_19 25 rfl 22 rfl (fun _ q => by cases q) (fun _ => ?_)
    refine g_bipush hC dX0_restore_22 kb_m5 24 rfl ?_
    exact g_iret (v := -5) hC (fun k9 hk9 => ⟨rfl, rfl, Nat.le_zero.mp hk9⟩) dX0_restore_24 (Nat.le_of_ble_eq_true rfl) (Nat.le_of_ble_eq_true rfl)
  · replace c_1 := bId_0 c_1
    exact absurd (show 0 ≤ nI sl ∧ nI sl ≤ 1 from ⟨nI_le (a := 0) (by omega) (by omega), nI_le (b := 1) hsl (by omega)⟩) c_1
set_option maxHeartbeats 4000000 in
theorem met_X_restore (l : Launch) (G : gG) (M : gM) (xa : Nat) (sv : Nat) (ms : Nat) (tx : Nat) (le : Int32) (ta : Nat) (of : Nat) (f : Nat → Int32) (q : Nat) (ob : Nat) (sl : Nat) (tc : Nat) (A : Nat → Option Nat) (hta : 2 ≤ ta ∧ ta < 9) (ht8 : ta < 8) (htc : 2 ≤ tc ∧ tc < 9) (htc8 : tc < 8) (hac : tc ≠ ta) (hsl : sl ≤ 1) (hA : A sl = some ob) (hM_0 : M xa = some ((8, 0), .inr (0, [.ref of, .ref sv, .ref ms, .ref tx, .int le]))) (hM_1 : M sv = some ((8, 1), .inl (gcs G 5, 2, .inr (.inr (.inr (.inr A)))))) (hP_0 : busR M G ta ob f q) : Met l yX0_restore (ws_ yX0_restore cX0_restore 2 (some .int)) ({ frames := 18, cells := 85, slots := 1107, locals := 469 }) (gPc G [.ref xa, .int (nI sl)] M) (gQi G (fun r9 M9 k9 => ∃ o9 : Nat, r9 = (f 1024) ∧ M9 xa = some ((8, 0), .inr (0, [.ref o9, .ref sv, .ref ms, .ref tx, .int le])) ∧ busR M9 G ta ob f q ∧ busR M9 G tc o9 f q ∧ gFr (gT (fun t => (t.1 = ta ∨ t.1 = tc ∨ t.1 = 9) ∨ tgE 8 0 t)) M M9 ∧ k9 ≤ 85)) 85 1107 (gA G) := by
  refine gMet [(0, .ref xa), (1, .int (nI sl))] (by decide) (Nat.le_of_ble_eq_true rfl) rfl ?_
  intro p e s m below meth c hC
  refine g_iload_n hC dX0_restore_0 1 rfl 1 rfl ?_
  refine g_i2l hC dX0_restore_1 2 rfl ?_
  refine g_lconst (v := 0) hC dX0_restore_2 (by decide) 3 rfl ?_
  refine g_lconst (v := 1) hC dX0_restore_3 (by decide) 4 rfl ?_
  refine g_calliP (g_S (As := [.long (Int32.toInt64 (nI sl)), .long 0, .long 1]) (rest := []) hC msX0_isIn q541 (met_isIn l G M (Int32.toInt64 (nI sl)) 0 1) ⟨rfl, rfl⟩ ⟨(Nat.le_of_ble_eq_true rfl), (Nat.le_of_ble_eq_true rfl)⟩ rfl (Nat.le_of_ble_eq_true rfl) dX0_restore_4 rfl ⟨(Nat.le_of_ble_eq_true rfl), (Nat.le_of_ble_eq_true rfl)⟩) 7 rfl 0 (Nat.le_of_ble_eq_true rfl) ?_
  refine g_topi (y := bI (decide (0 ≤ nI sl ∧ nI sl ≤ 1))) (isIn_c 0 1 (by decide) (by decide)) ?_
  refine g_if_ne hC dX0_restore_7 13 rfl 10 rfl (fun c_1 => ?_) (fun c_1 => ?_)
  · replace c_1 := bId_1 c_1
    refine g_aload_n hC dX0_restore_13 0 rfl gRef_r 14 rfl ?_
    refine g_get (v := .ref sv) hC cI0 hM_0 1 (Nat.le_of_ble_eq_true rfl) q518 rfl dX0_restore_14 17 rfl ?_
    refine g_iload_n hC dX0_restore_17 1 rfl 18 rfl ?_
    refine g_aldq (r := some ob) hC hM_1 5 rfl (vp_in_nI (by omega) (by omega)) ((congrArg A (nI_clamp (by omega))).trans hA) dX0_restore_18 19 rfl ?_
    refine g_ifnonnull (r := some ob) hC dX0_restore_19 25 rfl 22 rfl (fun _ _ => ?_) (fun q => by cases q)
    refine g_aload_n hC dX0_restore_25 0 rfl gRef_r 26 rfl ?_
    refine g_new hC cI1 q178 q179 q103 df1 (tc, 100) (Nat.le_of_ble_eq_true rfl) (Nat.le_of_ble_eq_true rfl) 1 (Nat.le_of_ble_eq_true rfl) 7 (Nat.le_of_ble_eq_true rfl) dX0_restore_26 29 rfl (fun a3 M4 hN5 => ?_)
    refine g_dup hC dX0_restore_29 rfl 30 rfl ?_
    refine g_aload_n hC dX0_restore_30 0 rfl gRef_r 31 rfl ?_
    refine g_get (v := .ref sv) hC cI0 (hN5.n hM_0) 1 (Nat.le_of_ble_eq_true rfl) q518 rfl dX0_restore_31 34 rfl ?_
    refine g_iload_n hC dX0_restore_34 1 rfl 35 rfl ?_
    refine g_aldq (r := some ob) hC (hN5.n hM_1) 5 rfl (vp_in_nI (by omega) (by omega)) ((congrArg A (nI_clamp (by omega))).trans hA) dX0_restore_35 36 rfl ?_
    refine g_callv (g_I (As := [.ref ob]) (rest := [.ref a3, .ref xa]) hC miX1_init_2 q2466 (met_B_copy l G M4 tc a3 ta ob f q htc hta hac hN5.2.1 (busR.fr hP_0 (gFr.refl.nw hN5))) ⟨rfl, rfl⟩ ⟨(Nat.le_of_ble_eq_true rfl), (Nat.le_of_ble_eq_true rfl)⟩ rfl (Nat.le_of_ble_eq_true rfl) dX0_restore_36 rfl ⟨(Nat.le_of_ble_eq_true rfl), (Nat.le_of_ble_eq_true rfl)⟩) 85 (Nat.le_of_ble_eq_true rfl) 1107 (Nat.le_of_ble_eq_true rfl) 39 rfl (fun M6 k7 hp8 => ?_)
    obtain ⟨hpd10, hpd11, hF12, hk13⟩ := hp8
    refine g_put hC cI0 (hF12 _ _ _ (hN5.n hM_0) (show ¬ (fun t => t.1 = tc ∨ t.1 = ta ∨ t.1 = 9) (8, 0) by (try simp only [ndT, tgE, gT, tgR, ndT9, ndW, tg0, Prod.mk.injEq, true_and, and_true, cpyT]); first | done | omega | (simp; done) | simp_all)) 0 (Nat.le_of_ble_eq_true rfl) q517 rfl rfl rfl (Nat.le_of_ble_eq_true rfl) dX0_restore_39 (fs' := [.ref a3, .ref sv, .ref ms, .ref tx, .int le]) rfl 42 rfl (fun M14 hU15 => ?_)
    have hH16 := (hU15.n (gne_ao (hF12 _ _ _ (hN5.n hM_1) (show ¬ (fun t => t.1 = tc ∨ t.1 = ta ∨ t.1 = 9) (8, 1) by (try simp only [ndT, tgE, gT, tgR, ndT9, ndW, tg0, Prod.mk.injEq, true_and, and_true, cpyT]); first | done | omega | (simp; done) | simp_all)) (hF12 _ _ _ (hN5.n hM_0) (show ¬ (fun t => t.1 = tc ∨ t.1 = ta ∨ t.1 = 9) (8, 0) by (try simp only [ndT, tgE, gT, tgR, ndT9, ndW, tg0, Prod.mk.injEq, true_and, and_true, cpyT]); first | done | omega | (simp; done) | simp_all))) (hF12 _ _ _ (hN5.n hM_1) (show ¬ (fun t => t.1 = tc ∨ t.1 = ta ∨ t.1 = 9) (8, 1) by (try simp only [ndT, tgE, gT, tgR, ndT9, ndW, tg0, Prod.mk.injEq, true_and, and_true, cpyT]); first | done | omega | (simp; done) | simp_all)))
    have hH17 : busR M14 G tc a3 f q := (busR.fr hpd10 (gFr.refl.up hU15 (hF12 _ _ _ (hN5.n hM_0) (show ¬ (fun t => t.1 = tc ∨ t.1 = ta ∨ t.1 = 9) (8, 0) by (try simp only [ndT, tgE, gT, tgR, ndT9, ndW, tg0, Prod.mk.injEq, true_and, and_true, cpyT]); first | done | omega | (simp; done) | simp_all)) (show (fun t => ¬ (fun t => t.1 = tc ∨ tg0 t) t) (8, 0) by (try simp only [ndT, tgE, gT, tgR, ndT9, ndW, tg0, Prod.mk.injEq, true_and, and_true, cpyT]); first | done | omega | (simp; done))))
    have hH18 : busR M14 G ta ob f q := (busR.fr hpd11 (gFr.refl.up hU15 (hF12 _ _ _ (hN5.n hM_0) (show ¬ (fun t => t.1 = tc ∨ t.1 = ta ∨ t.1 = 9) (8, 0) by (try simp only [ndT, tgE, gT, tgR, ndT9, ndW, tg0, Prod.mk.injEq, true_and, and_true, cpyT]); first | done | omega | (simp; done) | simp_all)) (show (fun t => ¬ (fun t => t.1 = ta ∨ tg0 t) t) (8, 0) by (try simp only [ndT, tgE, gT, tgR, ndT9, ndW, tg0, Prod.mk.injEq, true_and, and_true, cpyT]); first | done | omega | (simp; done))))
    obtain ⟨bn_z19, bd_z19, bh_z19, tn_z19, pl_z19, ol_z19, rv_z19, hs_z19, b0_z19, b3_z19, ht_z19, hq_z19, hl_z19, hh_z19⟩ := busR.hist hH17
    refine g_aload_n hC dX0_restore_42 0 rfl gRef_r 43 rfl ?_
    refine g_get (v := .ref a3) hC cI0 hU15.1 0 (Nat.le_of_ble_eq_true rfl) q517 rfl dX0_restore_43 46 rfl ?_
    refine g_getN (v := .int (nI tn_z19)) hC cI1 b0_z19 3 (Nat.le_of_ble_eq_true rfl) q476 rfl dX0_restore_46 49 rfl ?_
    exact g_iret (v := nI tn_z19) hC (fun k9 hk9 => ⟨a3, (ht_z19.symm), hU15.1, hH18, hH17, (((gFr.refl.nw hN5).trans (hF12.mono (fun b t h => by obtain ⟨u9, v9⟩ := t; revert h; (try simp only [ndT, tgE, gT, tgR, ndT9, ndW, tg0, Prod.mk.injEq, true_and, and_true, cpyT]); first | done | omega | (simp; done) | (intro h; simp_all; done)))).up hU15 (hF12 _ _ _ (hN5.n hM_0) (show ¬ (fun t => t.1 = tc ∨ t.1 = ta ∨ t.1 = 9) (8, 0) by (try simp only [ndT, tgE, gT, tgR, ndT9, ndW, tg0, Prod.mk.injEq, true_and, and_true, cpyT]); first | done | omega | (simp; done) | simp_all)) (show (fun t => (t.1 = ta ∨ t.1 = tc ∨ t.1 = 9) ∨ tgE 8 0 t) (8, 0) by (try simp only [ndT, tgE, gT, tgR, ndT9, ndW, tg0, Prod.mk.injEq, true_and, and_true, cpyT]); first | done | omega | (simp; done))), (by first | exact Nat.le_zero.mp hk9 | omega)⟩) dX0_restore_49 (Nat.le_of_ble_eq_true rfl) (Nat.le_of_ble_eq_true rfl)
  · replace c_1 := bId_0 c_1
    exact absurd (show 0 ≤ nI sl ∧ nI sl ≤ 1 from ⟨nI_le (a := 0) (by omega) (by omega), nI_le (b := 1) hsl (by omega)⟩) c_1
