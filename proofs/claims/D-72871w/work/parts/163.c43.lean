/-! the public methods: received frames, waiting frames -/
set_option maxRecDepth 100000
theorem relN.r24 {f : Nat → Int32} {k q : Nat} {x : NS} (h : relN f k q x) : f (256 * k + 24) = nI x.R.length ∧ x.R.length ≤ 6 := by
  obtain ⟨V, h⟩ := h; exact ⟨h.1.2.2.2.1.2.1, h.1.2.2.2.1.1⟩
theorem in_len {a n i : Int32} {m : Nat} (hm : m ≤ 6) (h : 0 ≤ i ∧ i ≤ nI m - 1) {j : Nat} (hj : i = nI j) (hj9 : j < 2147483648) : j < m := by
  cases m with
  | zero =>
    rw [hj] at h
    have h1 : (0 : Int) ≤ (nI j).toInt := Int32.le_iff_toInt_le.mp h.1
    have h2 := Int32.le_iff_toInt_le.mp h.2
    have h3 : (nI 0 - 1 : Int32).toInt = -1 := by decide
    omega
  | succ m =>
    have e : nI (m + 1) - 1 = nI m := nI_s (a := m + 1) (b := 1) (c := m) (by omega)
    rw [e, hj] at h
    have := nn_le (by omega) (by omega) h.2
    omega
theorem len_in {m j : Nat} (hm : m ≤ 6) (h : j < m) : 0 ≤ nI j ∧ nI j ≤ nI m - 1 := by
  cases m with
  | zero => omega
  | succ m =>
    have e : nI (m + 1) - 1 = nI m := nI_s (a := m + 1) (b := 1) (c := m) (by omega)
    rw [e]
    exact ⟨nI_le (a := 0) (by omega) (by omega), nI_le (by omega) (by omega)⟩
theorem relN.got {f : Nat → Int32} {k q i : Nat} {x : NS} (h : relN f k q x) (hin : 0 ≤ nI i ∧ nI i ≤ f (256 * k + 24) - 1) (hi : i ≤ 5) : ∃ e, x.R[i]? = some e ∧ (T_gkey f k i = frK e.2 ∧ f (256 * k + 4 * i + 52) = e.2.2.2.1 ∧ f (256 * k + 4 * i + 53) = e.2.2.2.2.1) := by
  have h24 := h.r24
  rw [h24.1] at hin
  have hl := in_len (a := 0) (n := 0) h24.2 hin rfl (by omega)
  obtain ⟨V, h⟩ := h
  obtain ⟨a, b, c, d⟩ := h.1.2.2.2.1.2.2 i x.R[i] (List.getElem?_eq_getElem hl)
  refine ⟨x.R[i], List.getElem?_eq_getElem hl, ?_, c, d⟩
  show 2 * f (256 * k + 4 * i + 50) + f (256 * k + 4 * i + 51) = 2 * x.R[i].2.1 + (if x.R[i].2.2.1 = true then 1 else 0)
  rw [a, b, bI_if]
theorem relN.gno {f : Nat → Int32} {k q n : Nat} {x : NS} {y : Int32} (h : relN f k q x) (hin : ¬ (0 ≤ y ∧ y ≤ f (256 * k + 24) - 1)) (hy : y = nI n) : x.R[n]? = none := by
  have h24 := h.r24
  rw [List.getElem?_eq_none_iff]
  rcases Nat.lt_or_ge n x.R.length with z | z
  · exact absurd (by rw [h24.1, hy]; exact len_in h24.2 z) hin
  · exact z
theorem i_nat {y : Int32} (h : ¬ y < 0) : ∃ n, n < 2147483648 ∧ y = nI n := by
  have h1 : (0 : Int) ≤ y.toInt := Int32.le_iff_toInt_le.mp (Int32.not_lt.mp h)
  have h2 : y.toInt < 2147483648 := Int32.toInt_lt y
  refine ⟨y.toInt.toNat, by omega, ?_⟩
  rw [← Int32.toInt_inj, nI_toInt (by omega)]
  omega
set_option maxHeartbeats 4000000 in
theorem met_X_frameAt (l : Launch) (G : gG) (M : gM) (xa : Nat) (sv : Nat) (ms : Nat) (tx : Nat) (le : Int32) (ta : Nat) (of : Nat) (f : Nat → Int32) (q : Nat) (k : Nat) (i : Nat) (hta : 2 ≤ ta ∧ ta < 9) (hk : k < 4) (hin : 0 ≤ nI i ∧ nI i ≤ f (256 * k + 24) - 1) (hi : i ≤ 5) (hM_0 : M xa = some ((8, 0), .inr (0, [.ref of, .ref sv, .ref ms, .ref tx, .int le]))) (hP_0 : busR M G ta of f q) : Met l yX0_frameAt (ws_ yX0_frameAt cX0_frameAt 3 (some (.object "ArbitratedBus$Frame"))) ({ frames := 5, cells := 1, slots := 4, locals := 107 }) (gPc G [.ref xa, .int (nI k), .int (nI i)] M) (gQq G (fun r9 M9 k9 => ∃ ee : pqE, r9 = (some ee.1) ∧ M9 ee.1 = some ((0, 1), .inr (8, [.int ee.2.1, .int (bI ee.2.2.1), .int ee.2.2.2.1, .int ee.2.2.2.2.1, .int ee.2.2.2.2.2])) ∧ busR M9 G ta of f q ∧ gFr (gT (tgR 9 0 8)) M M9 ∧ (T_gkey f k i = frK ee.2 ∧ f (256 * k + 4 * i + 52) = ee.2.2.2.1 ∧ f (256 * k + 4 * i + 53) = ee.2.2.2.2.1) ∧ k9 ≤ 1)) 1 4 (gA G) := by
  refine gMet [(0, .ref xa), (1, .int (nI k)), (2, .int (nI i))] (by decide) (Nat.le_of_ble_eq_true rfl) rfl ?_
  intro p e s m below meth c hC
  refine g_iload_n hC dX0_frameAt_0 1 rfl 1 rfl ?_
  refine g_calliP (g_S (As := [.int (nI k)]) (rest := []) hC msX0_isNode q550 (met_X_isNode l G M (nI k)) ⟨rfl, rfl⟩ ⟨(Nat.le_of_ble_eq_true rfl), (Nat.le_of_ble_eq_true rfl)⟩ rfl (Nat.le_of_ble_eq_true rfl) dX0_frameAt_1 rfl ⟨(Nat.le_of_ble_eq_true rfl), (Nat.le_of_ble_eq_true rfl)⟩) 4 rfl 0 (Nat.le_of_ble_eq_true rfl) ?_
  refine g_if_eq hC dX0_frameAt_4 27 rfl 7 rfl (fun c_1 => ?_) (fun c_1 => ?_)
  · replace c_1 := bId_0 c_1
    exact absurd (nk_in hk) c_1
  · replace c_1 := bId_1 c_1
    refine g_iload_n hC dX0_frameAt_7 2 rfl 8 rfl ?_
    refine g_if_lt hC dX0_frameAt_8 27 rfl 11 rfl (fun c_2 => ?_) (fun c_2 => ?_)
    · exact absurd (show i < 0 from nn_lt (by omega) (by omega) c_2) (by omega)
    · replace c_2 : 0 ≤ i := nn_nlt (by omega) (by omega) c_2
      obtain ⟨bn_z3, bd_z3, bh_z3, nd_z3, tn_z3, pl_z3, ol_z3, rv_z3, A_z3, x_z3, b0_z3, b1_z3, hA_z3, hN_z3, hR_z3, ht_z3, hl_z3, hp_z3, hW_z3⟩ := busR.nd hP_0 hta (show k < 4 by omega)
      obtain ⟨sa_z4, wa_z4, rc_z4, an_z4, er_z4, rq_z4, rh_z4, hO_z4, hD_z4, hA_z4, hE_z4, hf_z4, hr8_z4, hr6_z4⟩ := isNd.oc hN_z3
      refine g_aload_n hC dX0_frameAt_11 0 rfl gRef_r 12 rfl ?_
      refine g_get (v := .ref of) hC cI0 hM_0 0 (Nat.le_of_ble_eq_true rfl) q517 rfl dX0_frameAt_12 15 rfl ?_
      refine g_getN (v := .ref bn_z3) hC cI1 b0_z3 0 (Nat.le_of_ble_eq_true rfl) q470 rfl dX0_frameAt_15 18 rfl ?_
      refine g_iload_n hC dX0_frameAt_18 1 rfl 19 rfl ?_
      refine g_aldq (r := some nd_z3) hC b1_z3 4 rfl (vp_in_nI (by omega) (by omega)) ((congrArg A_z3 (nI_clamp (by omega))).trans hA_z3) dX0_frameAt_19 20 rfl ?_
      refine g_iload_n hC dX0_frameAt_20 2 rfl 21 rfl ?_
      refine g_callq (g_V (As := [.int (nI i)]) (rest := []) hC mvX2_receivedAt q2402 (isNd.cls hC.K hN_z3) (met_N_receivedAt l G M ta k of nd_z3 x_z3 i hta (by first | assumption | decide | omega | (dsimp only; omega) | simp_all) hN_z3) ⟨rfl, rfl⟩ ⟨(Nat.le_of_ble_eq_true rfl), (Nat.le_of_ble_eq_true rfl)⟩ rfl (Nat.le_of_ble_eq_true rfl) dX0_frameAt_21 rfl ⟨(Nat.le_of_ble_eq_true rfl), (Nat.le_of_ble_eq_true rfl)⟩) 1 (Nat.le_of_ble_eq_true rfl) 4 (Nat.le_of_ble_eq_true rfl) 24 rfl (fun r8 M5 k6 hp7 => ?_)
      obtain ⟨rfl, hpd9, hF10, hk11⟩ := hp7
      obtain ⟨e9, he9, hg9⟩ := relN.got hR_z3 hin hi
      refine g_topv (y := .ref e9.1) (by rw [he9]; rfl) ?_
      have hE12 := (frs.fr hf_z4 (gFr.refl.trans (hF10.mono (fun b t h => by obtain ⟨u9, v9⟩ := t; revert h; (try simp only [ndT, tgE, gT, tgR, ndT9, ndW, tg0, Prod.mk.injEq, true_and, and_true, cpyT]); first | done | omega | (simp; done) | (intro h; simp_all; done))))) e9 (List.mem_of_getElem? he9)
      refine g_goto hC dX0_frameAt_24 28 rfl ?_
      exact g_aret (v := some e9.1) hC (by first | exact Or.inl ⟨_, rfl⟩ | exact Or.inr ⟨_, rfl⟩) (fun k9 hk9 => ⟨e9, rfl, hE12, (busR.fr hP_0 (gFr.refl.trans (hF10.mono (fun b t h => by obtain ⟨u9, v9⟩ := t; revert h; (try simp only [ndT, tgE, gT, tgR, ndT9, ndW, tg0, Prod.mk.injEq, true_and, and_true, cpyT]); first | done | omega | (simp; done) | (intro h; simp_all; done))))), (gFr.refl.trans (hF10.mono (fun b t h => by obtain ⟨u9, v9⟩ := t; revert h; (try simp only [ndT, tgE, gT, tgR, ndT9, ndW, tg0, Prod.mk.injEq, true_and, and_true, cpyT]); first | done | omega | (simp; done) | (intro h; simp_all; done)))), hg9, (by first | exact Nat.le_zero.mp hk9 | omega)⟩) dX0_frameAt_28 (Nat.le_of_ble_eq_true rfl) (Nat.le_of_ble_eq_true rfl)
set_option maxHeartbeats 4000000 in
theorem met_X_frameAt_o (l : Launch) (G : gG) (M : gM) (xa : Nat) (sv : Nat) (ms : Nat) (tx : Nat) (le : Int32) (ta : Nat) (of : Nat) (f : Nat → Int32) (q : Nat) (k : Nat) (y : Int32) (hta : 2 ≤ ta ∧ ta < 9) (hk : k < 4) (hin : ¬ (0 ≤ y ∧ y ≤ f (256 * k + 24) - 1)) (hM_0 : M xa = some ((8, 0), .inr (0, [.ref of, .ref sv, .ref ms, .ref tx, .int le]))) (hP_0 : busR M G ta of f q) : Met l yX0_frameAt (ws_ yX0_frameAt cX0_frameAt 3 (some (.object "ArbitratedBus$Frame"))) ({ frames := 5, cells := 1, slots := 4, locals := 107 }) (gPc G [.ref xa, .int (nI k), .int y] M) (gQq G (fun r9 M9 k9 => r9 = none ∧ busR M9 G ta of f q ∧ gFr (gT (tgR 9 0 8)) M M9 ∧ k9 ≤ 1)) 1 4 (gA G) := by
  refine gMet [(0, .ref xa), (1, .int (nI k)), (2, .int y)] (by decide) (Nat.le_of_ble_eq_true rfl) rfl ?_
  intro p e s m below meth c hC
  refine g_iload_n hC dX0_frameAt_0 1 rfl 1 rfl ?_
  refine g_calliP (g_S (As := [.int (nI k)]) (rest := []) hC msX0_isNode q550 (met_X_isNode l G M (nI k)) ⟨rfl, rfl⟩ ⟨(Nat.le_of_ble_eq_true rfl), (Nat.le_of_ble_eq_true rfl)⟩ rfl (Nat.le_of_ble_eq_true rfl) dX0_frameAt_1 rfl ⟨(Nat.le_of_ble_eq_true rfl), (Nat.le_of_ble_eq_true rfl)⟩) 4 rfl 0 (Nat.le_of_ble_eq_true rfl) ?_
  refine g_if_eq hC dX0_frameAt_4 27 rfl 7 rfl (fun c_1 => ?_) (fun c_1 => ?_)
  · replace c_1 := bId_0 c_1
    exact absurd (nk_in hk) c_1
  · replace c_1 := bId_1 c_1
    refine g_iload_n hC dX0_frameAt_7 2 rfl 8 rfl ?_
    refine g_if_lt hC dX0_frameAt_8 27 rfl 11 rfl (fun c_2 => ?_) (fun c_2 => ?_)
    · refine g_null hC dX0_frameAt_27 28 rfl ?_
      exact g_aret (v := none) hC (by first | exact Or.inl ⟨_, rfl⟩ | exact Or.inr ⟨_, rfl⟩) (fun k9 hk9 => ⟨rfl, hP_0, gFr.refl, (by first | exact Nat.le_zero.mp hk9 | omega)⟩) dX0_frameAt_28 (Nat.le_of_ble_eq_true rfl) (Nat.le_of_ble_eq_true rfl)
    · obtain ⟨n9, hn9, hy9⟩ := i_nat c_2
      obtain ⟨bn_z3, bd_z3, bh_z3, nd_z3, tn_z3, pl_z3, ol_z3, rv_z3, A_z3, x_z3, b0_z3, b1_z3, hA_z3, hN_z3, hR_z3, ht_z3, hl_z3, hp_z3, hW_z3⟩ := busR.nd hP_0 hta (show k < 4 by omega)
      obtain ⟨sa_z4, wa_z4, rc_z4, an_z4, er_z4, rq_z4, rh_z4, hO_z4, hD_z4, hA_z4, hE_z4, hf_z4, hr8_z4, hr6_z4⟩ := isNd.oc hN_z3
      refine g_aload_n hC dX0_frameAt_11 0 rfl gRef_r 12 rfl ?_
      refine g_get (v := .ref of) hC cI0 hM_0 0 (Nat.le_of_ble_eq_true rfl) q517 rfl dX0_frameAt_12 15 rfl ?_
      refine g_getN (v := .ref bn_z3) hC cI1 b0_z3 0 (Nat.le_of_ble_eq_true rfl) q470 rfl dX0_frameAt_15 18 rfl ?_
      refine g_iload_n hC dX0_frameAt_18 1 rfl 19 rfl ?_
      refine g_aldq (r := some nd_z3) hC b1_z3 4 rfl (vp_in_nI (by omega) (by omega)) ((congrArg A_z3 (nI_clamp (by omega))).trans hA_z3) dX0_frameAt_19 20 rfl ?_
      refine g_iload_n hC dX0_frameAt_20 2 rfl 21 rfl ?_
      refine g_topi (y := nI n9) hy9 ?_
      refine g_callq (g_V (As := [.int (nI n9)]) (rest := []) hC mvX2_receivedAt q2402 (isNd.cls hC.K hN_z3) (met_N_receivedAt l G M ta k of nd_z3 x_z3 n9 hta hn9 hN_z3) ⟨rfl, rfl⟩ ⟨(Nat.le_of_ble_eq_true rfl), (Nat.le_of_ble_eq_true rfl)⟩ rfl (Nat.le_of_ble_eq_true rfl) dX0_frameAt_21 rfl ⟨(Nat.le_of_ble_eq_true rfl), (Nat.le_of_ble_eq_true rfl)⟩) 1 (Nat.le_of_ble_eq_true rfl) 4 (Nat.le_of_ble_eq_true rfl) 24 rfl (fun r8 M5 k6 hp7 => ?_)
      obtain ⟨rfl, hpd9, hF10, hk11⟩ := hp7
      have hno := relN.gno hR_z3 hin hy9
      refine g_topv (y := .null) (by rw [hno]; rfl) ?_
      refine g_goto hC dX0_frameAt_24 28 rfl ?_
      exact g_aret (v := none) hC (by first | exact Or.inl ⟨_, rfl⟩ | exact Or.inr ⟨_, rfl⟩) (fun k9 hk9 => ⟨rfl, (busR.fr hP_0 (gFr.refl.trans (hF10.mono (fun b t h => by obtain ⟨u9, v9⟩ := t; revert h; (try simp only [ndT, tgE, gT, tgR, ndT9, ndW, tg0, Prod.mk.injEq, true_and, and_true, cpyT]); first | done | omega | (simp; done) | (intro h; simp_all; done))))), (gFr.refl.trans (hF10.mono (fun b t h => by obtain ⟨u9, v9⟩ := t; revert h; (try simp only [ndT, tgE, gT, tgR, ndT9, ndW, tg0, Prod.mk.injEq, true_and, and_true, cpyT]); first | done | omega | (simp; done) | (intro h; simp_all; done)))), (by first | exact Nat.le_zero.mp hk9 | omega)⟩) dX0_frameAt_28 (Nat.le_of_ble_eq_true rfl) (Nat.le_of_ble_eq_true rfl)
set_option maxHeartbeats 4000000 in
theorem met_X_frameAt_n (l : Launch) (G : gG) (M : gM) (xa : Nat) (sv : Nat) (ms : Nat) (tx : Nat) (le : Int32) (ta : Nat) (of : Nat) (f : Nat → Int32) (q : Nat) (x : Int32) (y : Int32) (hx : ¬ (0 ≤ x ∧ x ≤ 3)) (hM_0 : M xa = some ((8, 0), .inr (0, [.ref of, .ref sv, .ref ms, .ref tx, .int le]))) : Met l yX0_frameAt (ws_ yX0_frameAt cX0_frameAt 3 (some (.object "ArbitratedBus$Frame"))) ({ frames := 2, cells := 0, slots := 0, locals := 45 }) (gPc G [.ref xa, .int x, .int y] M) (gQq G (fun r9 M9 k9 => r9 = none ∧ M9 = M ∧ k9 = 0)) 0 0 (gA G) := by
  refine gMet [(0, .ref xa), (1, .int x), (2, .int y)] (by decide) (Nat.le_of_ble_eq_true rfl) rfl ?_
  intro p e s m below meth c hC
  refine g_iload_n hC dX0_frameAt_0 1 rfl 1 rfl ?_
  refine g_calliP (g_S (As := [.int x]) (rest := []) hC msX0_isNode q550 (met_X_isNode l G M x) ⟨rfl, rfl⟩ ⟨(Nat.le_of_ble_eq_true rfl), (Nat.le_of_ble_eq_true rfl)⟩ rfl (Nat.le_of_ble_eq_true rfl) dX0_frameAt_1 rfl ⟨(Nat.le_of_ble_eq_true rfl), (Nat.le_of_ble_eq_true rfl)⟩) 4 rfl 0 (Nat.le_of_ble_eq_true rfl) ?_
  refine g_if_eq hC dX0_frameAt_4 27 rfl 7 rfl (fun c_1 => ?_) (fun c_1 => ?_)
  · replace c_1 := bId_0 c_1
    refine g_null hC dX0_frameAt_27 28 rfl ?_
    exact g_aret (v := none) hC (by first | exact Or.inl ⟨_, rfl⟩ | exact Or.inr ⟨_, rfl⟩) (fun k9 hk9 => ⟨rfl, rfl, Nat.le_zero.mp hk9⟩) dX0_frameAt_28 (Nat.le_of_ble_eq_true rfl) (Nat.le_of_ble_eq_true rfl)
  · replace c_1 := bId_1 c_1
    exact absurd c_1 hx
set_option maxHeartbeats 4000000 in
theorem met_X_receivedFrame_n (l : Launch) (G : gG) (M : gM) (xa : Nat) (sv : Nat) (ms : Nat) (tx : Nat) (le : Int32) (ta : Nat) (of : Nat) (f : Nat → Int32) (q : Nat) (x : Int32) (y : Int32) (hx : ¬ (0 ≤ x ∧ x ≤ 3)) (hM_0 : M xa = some ((8, 0), .inr (0, [.ref of, .ref sv, .ref ms, .ref tx, .int le]))) : Met l yX0_receivedFrame (ws_ yX0_receivedFrame cX0_receivedFrame 4 (some .int)) ({ frames := 2, cells := 0, slots := 0, locals := 45 }) (gPc G [.ref xa, .int x, .int y] M) (gQi G (fun r9 M9 k9 => r9 = (-1) ∧ M9 = M ∧ k9 = 0)) 0 0 (gA G) := by
  refine gMet [(0, .ref xa), (1, .int x), (2, .int y)] (by decide) (Nat.le_of_ble_eq_true rfl) rfl ?_
  intro p e s m below meth c hC
  refine g_iload_n hC dX0_receivedFrame_0 1 rfl 1 rfl ?_
  refine g_calliP (g_S (As := [.int x]) (rest := []) hC msX0_isNode q550 (met_X_isNode l G M x) ⟨rfl, rfl⟩ ⟨(Nat.le_of_ble_eq_true rfl), (Nat.le_of_ble_eq_true rfl)⟩ rfl (Nat.le_of_ble_eq_true rfl) dX0_receivedFrame_1 rfl ⟨(Nat.le_of_ble_eq_true rfl), (Nat.le_of_ble_eq_true rfl)⟩) 4 rfl 0 (Nat.le_of_ble_eq_true rfl) ?_
  refine g_if_ne hC dX0_receivedFrame_4 9 rfl 7 rfl (fun c_1 => ?_) (fun c_1 => ?_)
  · replace c_1 := bId_1 c_1
    exact absurd c_1 hx
  · replace c_1 := bId_0 c_1
    refine g_iconst hC dX0_receivedFrame_7 ki_m1 8 rfl ?_
    exact g_iret (v := -1) hC (fun k9 hk9 => ⟨rfl, rfl, Nat.le_zero.mp hk9⟩) dX0_receivedFrame_8 (Nat.le_of_ble_eq_true rfl) (Nat.le_of_ble_eq_true rfl)
set_option maxHeartbeats 4000000 in
theorem met_X_receivedFrame_o (l : Launch) (G : gG) (M : gM) (xa : Nat) (sv : Nat) (ms : Nat) (tx : Nat) (le : Int32) (ta : Nat) (of : Nat) (f : Nat → Int32) (q : Nat) (k : Nat) (y : Int32) (hta : 2 ≤ ta ∧ ta < 9) (hk : k < 4) (hin : ¬ (0 ≤ y ∧ y ≤ f (256 * k + 24) - 1)) (hM_0 : M xa = some ((8, 0), .inr (0, [.ref of, .ref sv, .ref ms, .ref tx, .int le]))) (hP_0 : busR M G ta of f q) : Met l yX0_receivedFrame (ws_ yX0_receivedFrame cX0_receivedFrame 4 (some .int)) ({ frames := 6, cells := 1, slots := 4, locals := 129 }) (gPc G [.ref xa, .int (nI k), .int y] M) (gQi G (fun r9 M9 k9 => r9 = (-5) ∧ busR M9 G ta of f q ∧ gFr (gT (tgR 9 0 8)) M M9 ∧ k9 ≤ 1)) 1 4 (gA G) := by
  refine gMet [(0, .ref xa), (1, .int (nI k)), (2, .int y)] (by decide) (Nat.le_of_ble_eq_true rfl) rfl ?_
  intro p e s m below meth c hC
  refine g_iload_n hC dX0_receivedFrame_0 1 rfl 1 rfl ?_
  refine g_calliP (g_S (As := [.int (nI k)]) (rest := []) hC msX0_isNode q550 (met_X_isNode l G M (nI k)) ⟨rfl, rfl⟩ ⟨(Nat.le_of_ble_eq_true rfl), (Nat.le_of_ble_eq_true rfl)⟩ rfl (Nat.le_of_ble_eq_true rfl) dX0_receivedFrame_1 rfl ⟨(Nat.le_of_ble_eq_true rfl), (Nat.le_of_ble_eq_true rfl)⟩) 4 rfl 0 (Nat.le_of_ble_eq_true rfl) ?_
  refine g_if_ne hC dX0_receivedFrame_4 9 rfl 7 rfl (fun c_1 => ?_) (fun c_1 => ?_)
  · replace c_1 := bId_1 c_1
    refine g_aload_n hC dX0_receivedFrame_9 0 rfl gRef_r 10 rfl ?_
    refine g_iload_n hC dX0_receivedFrame_10 1 rfl 11 rfl ?_
    refine g_iload_n hC dX0_receivedFrame_11 2 rfl 12 rfl ?_
    refine g_callq (g_V (As := [.int (nI k), .int y]) (rest := []) hC mvX0_frameAt q2398 (gOf.of hC.K cI0 hM_0) (met_X_frameAt_o l G M xa sv ms tx le ta of f q k y hta hk hin hM_0 hP_0) ⟨rfl, rfl⟩ ⟨(Nat.le_of_ble_eq_true rfl), (Nat.le_of_ble_eq_true rfl)⟩ rfl (Nat.le_of_ble_eq_true rfl) dX0_receivedFrame_12 rfl ⟨(Nat.le_of_ble_eq_true rfl), (Nat.le_of_ble_eq_true rfl)⟩) 1 (Nat.le_of_ble_eq_true rfl) 4 (Nat.le_of_ble_eq_true rfl) 15 rfl (fun r5 M2 k3 hp4 => ?_)
    obtain ⟨rfl, hpd6, hF7, hk8⟩ := hp4
    refine g_astore_n hC dX0_receivedFrame_15 rfl gRef_n (Nat.le_of_ble_eq_true rfl) [(3, .null), (0, .ref xa), (1, .int (nI k)), (2, .int y)] rfl 16 rfl ?_
    refine g_aload_n hC dX0_receivedFrame_16 0 rfl gRef_n 17 rfl ?_
    refine g_ifnonnull (r := none) hC dX0_receivedFrame_17 25 rfl 20 rfl (fun _ q => by cases q) (fun _ => ?_)
    refine g_bipush hC dX0_receivedFrame_20 kb_m5 22 rfl ?_
    refine g_goto hC dX0_receivedFrame_22 29 rfl ?_
    exact g_iret (v := -5) hC (fun k9 hk9 => ⟨rfl, hpd6, (gFr.refl.trans (hF7.mono (fun b t h => by obtain ⟨u9, v9⟩ := t; revert h; (try simp only [ndT, tgE, gT, tgR, ndT9, ndW, tg0, Prod.mk.injEq, true_and, and_true, cpyT]); first | done | omega | (simp; done) | (intro h; simp_all; done)))), (by first | exact Nat.le_zero.mp hk9 | omega)⟩) dX0_receivedFrame_29 (Nat.le_of_ble_eq_true rfl) (Nat.le_of_ble_eq_true rfl)
  · replace c_1 := bId_0 c_1
    exact absurd (nk_in hk) c_1
set_option maxHeartbeats 4000000 in
theorem met_X_receivedFrame (l : Launch) (G : gG) (M : gM) (xa : Nat) (sv : Nat) (ms : Nat) (tx : Nat) (le : Int32) (ta : Nat) (of : Nat) (f : Nat → Int32) (q : Nat) (k : Nat) (i : Nat) (hta : 2 ≤ ta ∧ ta < 9) (hk : k < 4) (hin : 0 ≤ nI i ∧ nI i ≤ f (256 * k + 24) - 1) (hi : i ≤ 5) (hM_0 : M xa = some ((8, 0), .inr (0, [.ref of, .ref sv, .ref ms, .ref tx, .int le]))) (hP_0 : busR M G ta of f q) : Met l yX0_receivedFrame (ws_ yX0_receivedFrame cX0_receivedFrame 4 (some .int)) ({ frames := 6, cells := 1, slots := 4, locals := 129 }) (gPc G [.ref xa, .int (nI k), .int (nI i)] M) (gQi G (fun r9 M9 k9 => r9 = (T_gkey f k i) ∧ busR M9 G ta of f q ∧ gFr (gT (tgR 9 0 8)) M M9 ∧ k9 ≤ 1)) 1 4 (gA G) := by
  refine gMet [(0, .ref xa), (1, .int (nI k)), (2, .int (nI i))] (by decide) (Nat.le_of_ble_eq_true rfl) rfl ?_
  intro p e s m below meth c hC
  refine g_iload_n hC dX0_receivedFrame_0 1 rfl 1 rfl ?_
  refine g_calliP (g_S (As := [.int (nI k)]) (rest := []) hC msX0_isNode q550 (met_X_isNode l G M (nI k)) ⟨rfl, rfl⟩ ⟨(Nat.le_of_ble_eq_true rfl), (Nat.le_of_ble_eq_true rfl)⟩ rfl (Nat.le_of_ble_eq_true rfl) dX0_receivedFrame_1 rfl ⟨(Nat.le_of_ble_eq_true rfl), (Nat.le_of_ble_eq_true rfl)⟩) 4 rfl 0 (Nat.le_of_ble_eq_true rfl) ?_
  refine g_if_ne hC dX0_receivedFrame_4 9 rfl 7 rfl (fun c_1 => ?_) (fun c_1 => ?_)
  · replace c_1 := bId_1 c_1
    refine g_aload_n hC dX0_receivedFrame_9 0 rfl gRef_r 10 rfl ?_
    refine g_iload_n hC dX0_receivedFrame_10 1 rfl 11 rfl ?_
    refine g_iload_n hC dX0_receivedFrame_11 2 rfl 12 rfl ?_
    refine g_callq (g_V (As := [.int (nI k), .int (nI i)]) (rest := []) hC mvX0_frameAt q2398 (gOf.of hC.K cI0 hM_0) (met_X_frameAt l G M xa sv ms tx le ta of f q k i hta hk hin hi hM_0 hP_0) ⟨rfl, rfl⟩ ⟨(Nat.le_of_ble_eq_true rfl), (Nat.le_of_ble_eq_true rfl)⟩ rfl (Nat.le_of_ble_eq_true rfl) dX0_receivedFrame_12 rfl ⟨(Nat.le_of_ble_eq_true rfl), (Nat.le_of_ble_eq_true rfl)⟩) 1 (Nat.le_of_ble_eq_true rfl) 4 (Nat.le_of_ble_eq_true rfl) 15 rfl (fun r5 M2 k3 hp4 => ?_)
    obtain ⟨ee_6, rfl, hc7, hpd8, hF9, hq10, hk11⟩ := hp4
    refine g_astore_n hC dX0_receivedFrame_15 rfl gRef_r (Nat.le_of_ble_eq_true rfl) [(3, .ref ee_6.1), (0, .ref xa), (1, .int (nI k)), (2, .int (nI i))] rfl 16 rfl ?_
    refine g_aload_n hC dX0_receivedFrame_16 0 rfl gRef_r 17 rfl ?_
    refine g_ifnonnull (r := some ee_6.1) hC dX0_receivedFrame_17 25 rfl 20 rfl (fun _ _ => ?_) (fun q => by cases q)
    refine g_aload_n hC dX0_receivedFrame_25 0 rfl gRef_r 26 rfl ?_
    refine g_calliP (g_V (As := []) (rest := []) hC mvX9_key q2388 (gOf.of hC.K cI8 hc7) (met_Fr_key l G M2 ee_6.1 (0, 1) ee_6.2.1 ee_6.2.2.1 ee_6.2.2.2.1 ee_6.2.2.2.2.1 ee_6.2.2.2.2.2 hc7) ⟨rfl, rfl⟩ ⟨(Nat.le_of_ble_eq_true rfl), (Nat.le_of_ble_eq_true rfl)⟩ rfl (Nat.le_of_ble_eq_true rfl) dX0_receivedFrame_26 rfl ⟨(Nat.le_of_ble_eq_true rfl), (Nat.le_of_ble_eq_true rfl)⟩) 29 rfl 4 (Nat.le_of_ble_eq_true rfl) ?_
    exact g_iret (v := fr_key ee_6.2.1 ee_6.2.2.1) hC (fun k9 hk9 => ⟨(hq10.1.symm), hpd8, (gFr.refl.trans (hF9.mono (fun b t h => by obtain ⟨u9, v9⟩ := t; revert h; (try simp only [ndT, tgE, gT, tgR, ndT9, ndW, tg0, Prod.mk.injEq, true_and, and_true, cpyT]); first | done | omega | (simp; done) | (intro h; simp_all; done)))), (by first | exact Nat.le_zero.mp hk9 | omega)⟩) dX0_receivedFrame_29 (Nat.le_of_ble_eq_true rfl) (Nat.le_of_ble_eq_true rfl)
  · replace c_1 := bId_0 c_1
    exact absurd (nk_in hk) c_1
set_option maxHeartbeats 4000000 in
theorem met_X_receivedLength_n (l : Launch) (G : gG) (M : gM) (xa : Nat) (sv : Nat) (ms : Nat) (tx : Nat) (le : Int32) (ta : Nat) (of : Nat) (f : Nat → Int32) (q : Nat) (x : Int32) (y : Int32) (hx : ¬ (0 ≤ x ∧ x ≤ 3)) (hM_0 : M xa = some ((8, 0), .inr (0, [.ref of, .ref sv, .ref ms, .ref tx, .int le]))) : Met l yX0_receivedLength (ws_ yX0_receivedLength cX0_receivedLength 4 (some .int)) ({ frames := 2, cells := 0, slots := 0, locals := 45 }) (gPc G [.ref xa, .int x, .int y] M) (gQi G (fun r9 M9 k9 => r9 = (-1) ∧ M9 = M ∧ k9 = 0)) 0 0 (gA G) := by
  refine gMet [(0, .ref xa), (1, .int x), (2, .int y)] (by decide) (Nat.le_of_ble_eq_true rfl) rfl ?_
  intro p e s m below meth c hC
  refine g_iload_n hC dX0_receivedLength_0 1 rfl 1 rfl ?_
  refine g_calliP (g_S (As := [.int x]) (rest := []) hC msX0_isNode q550 (met_X_isNode l G M x) ⟨rfl, rfl⟩ ⟨(Nat.le_of_ble_eq_true rfl), (Nat.le_of_ble_eq_true rfl)⟩ rfl (Nat.le_of_ble_eq_true rfl) dX0_receivedLength_1 rfl ⟨(Nat.le_of_ble_eq_true rfl), (Nat.le_of_ble_eq_true rfl)⟩) 4 rfl 0 (Nat.le_of_ble_eq_true rfl) ?_
  refine g_if_ne hC dX0_receivedLength_4 9 rfl 7 rfl (fun c_1 => ?_) (fun c_1 => ?_)
  · replace c_1 := bId_1 c_1
    exact absurd c_1 hx
  · replace c_1 := bId_0 c_1
    refine g_iconst hC dX0_receivedLength_7 ki_m1 8 rfl ?_
    exact g_iret (v := -1) hC (fun k9 hk9 => ⟨rfl, rfl, Nat.le_zero.mp hk9⟩) dX0_receivedLength_8 (Nat.le_of_ble_eq_true rfl) (Nat.le_of_ble_eq_true rfl)
set_option maxHeartbeats 4000000 in
theorem met_X_receivedLength_o (l : Launch) (G : gG) (M : gM) (xa : Nat) (sv : Nat) (ms : Nat) (tx : Nat) (le : Int32) (ta : Nat) (of : Nat) (f : Nat → Int32) (q : Nat) (k : Nat) (y : Int32) (hta : 2 ≤ ta ∧ ta < 9) (hk : k < 4) (hin : ¬ (0 ≤ y ∧ y ≤ f (256 * k + 24) - 1)) (hM_0 : M xa = some ((8, 0), .inr (0, [.ref of, .ref sv, .ref ms, .ref tx, .int le]))) (hP_0 : busR M G ta of f q) : Met l yX0_receivedLength (ws_ yX0_receivedLength cX0_receivedLength 4 (some .int)) ({ frames := 6, cells := 1, slots := 4, locals := 129 }) (gPc G [.ref xa, .int (nI k), .int y] M) (gQi G (fun r9 M9 k9 => r9 = (-5) ∧ busR M9 G ta of f q ∧ gFr (gT (tgR 9 0 8)) M M9 ∧ k9 ≤ 1)) 1 4 (gA G) := by
  refine gMet [(0, .ref xa), (1, .int (nI k)), (2, .int y)] (by decide) (Nat.le_of_ble_eq_true rfl) rfl ?_
  intro p e s m below meth c hC
  refine g_iload_n hC dX0_receivedLength_0 1 rfl 1 rfl ?_
  refine g_calliP (g_S (As := [.int (nI k)]) (rest := []) hC msX0_isNode q550 (met_X_isNode l G M (nI k)) ⟨rfl, rfl⟩ ⟨(Nat.le_of_ble_eq_true rfl), (Nat.le_of_ble_eq_true rfl)⟩ rfl (Nat.le_of_ble_eq_true rfl) dX0_receivedLength_1 rfl ⟨(Nat.le_of_ble_eq_true rfl), (Nat.le_of_ble_eq_true rfl)⟩) 4 rfl 0 (Nat.le_of_ble_eq_true rfl) ?_
  refine g_if_ne hC dX0_receivedLength_4 9 rfl 7 rfl (fun c_1 => ?_) (fun c_1 => ?_)
  · replace c_1 := bId_1 c_1
    refine g_aload_n hC dX0_receivedLength_9 0 rfl gRef_r 10 rfl ?_
    refine g_iload_n hC dX0_receivedLength_10 1 rfl 11 rfl ?_
    refine g_iload_n hC dX0_receivedLength_11 2 rfl 12 rfl ?_
    refine g_callq (g_V (As := [.int (nI k), .int y]) (rest := []) hC mvX0_frameAt q2398 (gOf.of hC.K cI0 hM_0) (met_X_frameAt_o l G M xa sv ms tx le ta of f q k y hta hk hin hM_0 hP_0) ⟨rfl, rfl⟩ ⟨(Nat.le_of_ble_eq_true rfl), (Nat.le_of_ble_eq_true rfl)⟩ rfl (Nat.le_of_ble_eq_true rfl) dX0_receivedLength_12 rfl ⟨(Nat.le_of_ble_eq_true rfl), (Nat.le_of_ble_eq_true rfl)⟩) 1 (Nat.le_of_ble_eq_true rfl) 4 (Nat.le_of_ble_eq_true rfl) 15 rfl (fun r5 M2 k3 hp4 => ?_)
    obtain ⟨rfl, hpd6, hF7, hk8⟩ := hp4
    refine g_astore_n hC dX0_receivedLength_15 rfl gRef_n (Nat.le_of_ble_eq_true rfl) [(3, .null), (0, .ref xa), (1, .int (nI k)), (2, .int y)] rfl 16 rfl ?_
    refine g_aload_n hC dX0_receivedLength_16 0 rfl gRef_n 17 rfl ?_
    refine g_ifnonnull (r := none) hC dX0_receivedLength_17 25 rfl 20 rfl (fun _ q => by cases q) (fun _ => ?_)
    refine g_bipush hC dX0_receivedLength_20 kb_m5 22 rfl ?_
    refine g_goto hC dX0_receivedLength_22 29 rfl ?_
    exact g_iret (v := -5) hC (fun k9 hk9 => ⟨rfl, hpd6, (gFr.refl.trans (hF7.mono (fun b t h => by obtain ⟨u9, v9⟩ := t; revert h; (try simp only [ndT, tgE, gT, tgR, ndT9, ndW, tg0, Prod.mk.injEq, true_and, and_true, cpyT]); first | done | omega | (simp; done) | (intro h; simp_all; done)))), (by first | exact Nat.le_zero.mp hk9 | omega)⟩) dX0_receivedLength_29 (Nat.le_of_ble_eq_true rfl) (Nat.le_of_ble_eq_true rfl)
  · replace c_1 := bId_0 c_1
    exact absurd (nk_in hk) c_1
set_option maxHeartbeats 4000000 in
theorem met_X_receivedLength (l : Launch) (G : gG) (M : gM) (xa : Nat) (sv : Nat) (ms : Nat) (tx : Nat) (le : Int32) (ta : Nat) (of : Nat) (f : Nat → Int32) (q : Nat) (k : Nat) (i : Nat) (hta : 2 ≤ ta ∧ ta < 9) (hk : k < 4) (hin : 0 ≤ nI i ∧ nI i ≤ f (256 * k + 24) - 1) (hi : i ≤ 5) (hM_0 : M xa = some ((8, 0), .inr (0, [.ref of, .ref sv, .ref ms, .ref tx, .int le]))) (hP_0 : busR M G ta of f q) : Met l yX0_receivedLength (ws_ yX0_receivedLength cX0_receivedLength 4 (some .int)) ({ frames := 6, cells := 1, slots := 4, locals := 129 }) (gPc G [.ref xa, .int (nI k), .int (nI i)] M) (gQi G (fun r9 M9 k9 => r9 = (f (256 * k + 4 * i + 52)) ∧ busR M9 G ta of f q ∧ gFr (gT (tgR 9 0 8)) M M9 ∧ k9 ≤ 1)) 1 4 (gA G) := by
  refine gMet [(0, .ref xa), (1, .int (nI k)), (2, .int (nI i))] (by decide) (Nat.le_of_ble_eq_true rfl) rfl ?_
  intro p e s m below meth c hC
  refine g_iload_n hC dX0_receivedLength_0 1 rfl 1 rfl ?_
  refine g_calliP (g_S (As := [.int (nI k)]) (rest := []) hC msX0_isNode q550 (met_X_isNode l G M (nI k)) ⟨rfl, rfl⟩ ⟨(Nat.le_of_ble_eq_true rfl), (Nat.le_of_ble_eq_true rfl)⟩ rfl (Nat.le_of_ble_eq_true rfl) dX0_receivedLength_1 rfl ⟨(Nat.le_of_ble_eq_true rfl), (Nat.le_of_ble_eq_true rfl)⟩) 4 rfl 0 (Nat.le_of_ble_eq_true rfl) ?_
  refine g_if_ne hC dX0_receivedLength_4 9 rfl 7 rfl (fun c_1 => ?_) (fun c_1 => ?_)
  · replace c_1 := bId_1 c_1
    refine g_aload_n hC dX0_receivedLength_9 0 rfl gRef_r 10 rfl ?_
    refine g_iload_n hC dX0_receivedLength_10 1 rfl 11 rfl ?_
    refine g_iload_n hC dX0_receivedLength_11 2 rfl 12 rfl ?_
    refine g_callq (g_V (As := [.int (nI k), .int (nI i)]) (rest := []) hC mvX0_frameAt q2398 (gOf.of hC.K cI0 hM_0) (met_X_frameAt l G M xa sv ms tx le ta of f q k i hta hk hin hi hM_0 hP_0) ⟨rfl, rfl⟩ ⟨(Nat.le_of_ble_eq_true rfl), (Nat.le_of_ble_eq_true rfl)⟩ rfl (Nat.le_of_ble_eq_true rfl) dX0_receivedLength_12 rfl ⟨(Nat.le_of_ble_eq_true rfl), (Nat.le_of_ble_eq_true rfl)⟩) 1 (Nat.le_of_ble_eq_true rfl) 4 (Nat.le_of_ble_eq_true rfl) 15 rfl (fun r5 M2 k3 hp4 => ?_)
    obtain ⟨ee_6, rfl, hc7, hpd8, hF9, hq10, hk11⟩ := hp4
    refine g_astore_n hC dX0_receivedLength_15 rfl gRef_r (Nat.le_of_ble_eq_true rfl) [(3, .ref ee_6.1), (0, .ref xa), (1, .int (nI k)), (2, .int (nI i))] rfl 16 rfl ?_
    refine g_aload_n hC dX0_receivedLength_16 0 rfl gRef_r 17 rfl ?_
    refine g_ifnonnull (r := some ee_6.1) hC dX0_receivedLength_17 25 rfl 20 rfl (fun _ _ => ?_) (fun q => by cases q)
    refine g_aload_n hC dX0_receivedLength_25 0 rfl gRef_r 26 rfl ?_
    refine g_getN (v := .int ee_6.2.2.2.1) hC cI8 hc7 2 (Nat.le_of_ble_eq_true rfl) q1156 rfl dX0_receivedLength_26 29 rfl ?_
    exact g_iret (v := ee_6.2.2.2.1) hC (fun k9 hk9 => ⟨(hq10.2.1.symm), hpd8, (gFr.refl.trans (hF9.mono (fun b t h => by obtain ⟨u9, v9⟩ := t; revert h; (try simp only [ndT, tgE, gT, tgR, ndT9, ndW, tg0, Prod.mk.injEq, true_and, and_true, cpyT]); first | done | omega | (simp; done) | (intro h; simp_all; done)))), (by first | exact Nat.le_zero.mp hk9 | omega)⟩) dX0_receivedLength_29 (Nat.le_of_ble_eq_true rfl) (Nat.le_of_ble_eq_true rfl)
  · replace c_1 := bId_0 c_1
    exact absurd (nk_in hk) c_1
set_option maxHeartbeats 4000000 in
theorem met_X_receivedData_n (l : Launch) (G : gG) (M : gM) (xa : Nat) (sv : Nat) (ms : Nat) (tx : Nat) (le : Int32) (ta : Nat) (of : Nat) (f : Nat → Int32) (q : Nat) (x : Int32) (y : Int32) (hx : ¬ (0 ≤ x ∧ x ≤ 3)) (hM_0 : M xa = some ((8, 0), .inr (0, [.ref of, .ref sv, .ref ms, .ref tx, .int le]))) : Met l yX0_receivedData (ws_ yX0_receivedData cX0_receivedData 4 (some .int)) ({ frames := 3, cells := 0, slots := 0, locals := 67 }) (gPc G [.ref xa, .int x, .int y] M) (gQi G (fun r9 M9 k9 => r9 = 0 ∧ M9 = M ∧ k9 = 0)) 0 0 (gA G) := by
  refine gMet [(0, .ref xa), (1, .int x), (2, .int y)] (by decide) (Nat.le_of_ble_eq_true rfl) rfl ?_
  intro p e s m below meth c hC
  refine g_aload_n hC dX0_receivedData_0 0 rfl gRef_r 1 rfl ?_
  refine g_iload_n hC dX0_receivedData_1 1 rfl 2 rfl ?_
  refine g_iload_n hC dX0_receivedData_2 2 rfl 3 rfl ?_
  refine g_callqP (g_V (As := [.int x, .int y]) (rest := []) hC mvX0_frameAt q2398 (gOf.of hC.K cI0 hM_0) (met_X_frameAt_n l G M xa sv ms tx le ta of f q x y hx hM_0) ⟨rfl, rfl⟩ ⟨(Nat.le_of_ble_eq_true rfl), (Nat.le_of_ble_eq_true rfl)⟩ rfl (Nat.le_of_ble_eq_true rfl) dX0_receivedData_3 rfl ⟨(Nat.le_of_ble_eq_true rfl), (Nat.le_of_ble_eq_true rfl)⟩) 6 rfl 0 (Nat.le_of_ble_eq_true rfl) ?_
  refine g_astore_n hC dX0_receivedData_6 rfl gRef_n (Nat.le_of_ble_eq_true rfl) [(3, .null), (0, .ref xa), (1, .int x), (2, .int y)] rfl 7 rfl ?_
  refine g_aload_n hC dX0_receivedData_7 0 rfl gRef_n 8 rfl ?_
  refine g_ifnonnull (r := none) hC dX0_receivedData_8 15 rfl 11 rfl (fun _ q => by cases q) (fun _ => ?_)
  refine g_iconst hC dX0_receivedData_11 ki_0 12 rfl ?_
  refine g_goto hC dX0_receivedData_12 19 rfl ?_
  exact g_iret (v := 0) hC (fun k9 hk9 => ⟨rfl, rfl, Nat.le_zero.mp hk9⟩) dX0_receivedData_19 (Nat.le_of_ble_eq_true rfl) (Nat.le_of_ble_eq_true rfl)
set_option maxHeartbeats 4000000 in
theorem met_X_receivedData_o (l : Launch) (G : gG) (M : gM) (xa : Nat) (sv : Nat) (ms : Nat) (tx : Nat) (le : Int32) (ta : Nat) (of : Nat) (f : Nat → Int32) (q : Nat) (k : Nat) (y : Int32) (hta : 2 ≤ ta ∧ ta < 9) (hk : k < 4) (hin : ¬ (0 ≤ y ∧ y ≤ f (256 * k + 24) - 1)) (hM_0 : M xa = some ((8, 0), .inr (0, [.ref of, .ref sv, .ref ms, .ref tx, .int le]))) (hP_0 : busR M G ta of f q) : Met l yX0_receivedData (ws_ yX0_receivedData cX0_receivedData 4 (some .int)) ({ frames := 6, cells := 1, slots := 4, locals := 129 }) (gPc G [.ref xa, .int (nI k), .int y] M) (gQi G (fun r9 M9 k9 => r9 = 0 ∧ busR M9 G ta of f q ∧ gFr (gT (tgR 9 0 8)) M M9 ∧ k9 ≤ 1)) 1 4 (gA G) := by
  refine gMet [(0, .ref xa), (1, .int (nI k)), (2, .int y)] (by decide) (Nat.le_of_ble_eq_true rfl) rfl ?_
  intro p e s m below meth c hC
  refine g_aload_n hC dX0_receivedData_0 0 rfl gRef_r 1 rfl ?_
  refine g_iload_n hC dX0_receivedData_1 1 rfl 2 rfl ?_
  refine g_iload_n hC dX0_receivedData_2 2 rfl 3 rfl ?_
  refine g_callq (g_V (As := [.int (nI k), .int y]) (rest := []) hC mvX0_frameAt q2398 (gOf.of hC.K cI0 hM_0) (met_X_frameAt_o l G M xa sv ms tx le ta of f q k y hta hk hin hM_0 hP_0) ⟨rfl, rfl⟩ ⟨(Nat.le_of_ble_eq_true rfl), (Nat.le_of_ble_eq_true rfl)⟩ rfl (Nat.le_of_ble_eq_true rfl) dX0_receivedData_3 rfl ⟨(Nat.le_of_ble_eq_true rfl), (Nat.le_of_ble_eq_true rfl)⟩) 1 (Nat.le_of_ble_eq_true rfl) 4 (Nat.le_of_ble_eq_true rfl) 6 rfl (fun r4 M1 k2 hp3 => ?_)
  obtain ⟨rfl, hpd5, hF6, hk7⟩ := hp3
  refine g_astore_n hC dX0_receivedData_6 rfl gRef_n (Nat.le_of_ble_eq_true rfl) [(3, .null), (0, .ref xa), (1, .int (nI k)), (2, .int y)] rfl 7 rfl ?_
  refine g_aload_n hC dX0_receivedData_7 0 rfl gRef_n 8 rfl ?_
  refine g_ifnonnull (r := none) hC dX0_receivedData_8 15 rfl 11 rfl (fun _ q => by cases q) (fun _ => ?_)
  refine g_iconst hC dX0_receivedData_11 ki_0 12 rfl ?_
  refine g_goto hC dX0_receivedData_12 19 rfl ?_
  exact g_iret (v := 0) hC (fun k9 hk9 => ⟨rfl, hpd5, (gFr.refl.trans (hF6.mono (fun b t h => by obtain ⟨u9, v9⟩ := t; revert h; (try simp only [ndT, tgE, gT, tgR, ndT9, ndW, tg0, Prod.mk.injEq, true_and, and_true, cpyT]); first | done | omega | (simp; done) | (intro h; simp_all; done)))), (by first | exact Nat.le_zero.mp hk9 | omega)⟩) dX0_receivedData_19 (Nat.le_of_ble_eq_true rfl) (Nat.le_of_ble_eq_true rfl)
set_option maxHeartbeats 4000000 in
theorem met_X_receivedData (l : Launch) (G : gG) (M : gM) (xa : Nat) (sv : Nat) (ms : Nat) (tx : Nat) (le : Int32) (ta : Nat) (of : Nat) (f : Nat → Int32) (q : Nat) (k : Nat) (i : Nat) (hta : 2 ≤ ta ∧ ta < 9) (hk : k < 4) (hin : 0 ≤ nI i ∧ nI i ≤ f (256 * k + 24) - 1) (hi : i ≤ 5) (hM_0 : M xa = some ((8, 0), .inr (0, [.ref of, .ref sv, .ref ms, .ref tx, .int le]))) (hP_0 : busR M G ta of f q) : Met l yX0_receivedData (ws_ yX0_receivedData cX0_receivedData 4 (some .int)) ({ frames := 6, cells := 1, slots := 4, locals := 129 }) (gPc G [.ref xa, .int (nI k), .int (nI i)] M) (gQi G (fun r9 M9 k9 => r9 = (f (256 * k + 4 * i + 53)) ∧ busR M9 G ta of f q ∧ gFr (gT (tgR 9 0 8)) M M9 ∧ k9 ≤ 1)) 1 4 (gA G) := by
  refine gMet [(0, .ref xa), (1, .int (nI k)), (2, .int (nI i))] (by decide) (Nat.le_of_ble_eq_true rfl) rfl ?_
  intro p e s m below meth c hC
  refine g_aload_n hC dX0_receivedData_0 0 rfl gRef_r 1 rfl ?_
  refine g_iload_n hC dX0_receivedData_1 1 rfl 2 rfl ?_
  refine g_iload_n hC dX0_receivedData_2 2 rfl 3 rfl ?_
  refine g_callq (g_V (As := [.int (nI k), .int (nI i)]) (rest := []) hC mvX0_frameAt q2398 (gOf.of hC.K cI0 hM_0) (met_X_frameAt l G M xa sv ms tx le ta of f q k i hta hk hin hi hM_0 hP_0) ⟨rfl, rfl⟩ ⟨(Nat.le_of_ble_eq_true rfl), (Nat.le_of_ble_eq_true rfl)⟩ rfl (Nat.le_of_ble_eq_true rfl) dX0_receivedData_3 rfl ⟨(Nat.le_of_ble_eq_true rfl), (Nat.le_of_ble_eq_true rfl)⟩) 1 (Nat.le_of_ble_eq_true rfl) 4 (Nat.le_of_ble_eq_true rfl) 6 rfl (fun r4 M1 k2 hp3 => ?_)
  obtain ⟨ee_5, rfl, hc6, hpd7, hF8, hq9, hk10⟩ := hp3
  refine g_astore_n hC dX0_receivedData_6 rfl gRef_r (Nat.le_of_ble_eq_true rfl) [(3, .ref ee_5.1), (0, .ref xa), (1, .int (nI k)), (2, .int (nI i))] rfl 7 rfl ?_
  refine g_aload_n hC dX0_receivedData_7 0 rfl gRef_r 8 rfl ?_
  refine g_ifnonnull (r := some ee_5.1) hC dX0_receivedData_8 15 rfl 11 rfl (fun _ _ => ?_) (fun q => by cases q)
  refine g_aload_n hC dX0_receivedData_15 0 rfl gRef_r 16 rfl ?_
  refine g_getN (v := .int ee_5.2.2.2.2.1) hC cI8 hc6 3 (Nat.le_of_ble_eq_true rfl) q1158 rfl dX0_receivedData_16 19 rfl ?_
  exact g_iret (v := ee_5.2.2.2.2.1) hC (fun k9 hk9 => ⟨(hq9.2.2.symm), hpd7, (gFr.refl.trans (hF8.mono (fun b t h => by obtain ⟨u9, v9⟩ := t; revert h; (try simp only [ndT, tgE, gT, tgR, ndT9, ndW, tg0, Prod.mk.injEq, true_and, and_true, cpyT]); first | done | omega | (simp; done) | (intro h; simp_all; done)))), (by first | exact Nat.le_zero.mp hk9 | omega)⟩) dX0_receivedData_19 (Nat.le_of_ble_eq_true rfl) (Nat.le_of_ble_eq_true rfl)
