/-! the public methods: request -/
set_option maxRecDepth 100000
set_option maxHeartbeats 4000000 in
theorem met_X_isFrame (l : Launch) (G : gG) (M : gM) (id : Int32) (rm : Bool) (ln : Int32) (da : Int32)   : Met l yX0_isFrame (ws_ yX0_isFrame cX0_isFrame 4 (some .boolean)) ({ frames := 1, cells := 0, slots := 0, locals := 25 }) (gPc G [.int id, .int (bI rm), .int ln, .int da] M) (gQi G (fun r9 M9 k9 => r9 = (bI (decide (okF id rm ln da))) ∧ M9 = M ∧ k9 = 0)) 0 0 (gA G) := by
  refine gMet [(0, .int id), (1, .int (bI rm)), (2, .int ln), (3, .int da)] (by decide) (Nat.le_of_ble_eq_true rfl) rfl ?_
  intro p e s m below meth c hC
  refine g_iload_n hC dX0_isFrame_0 0 rfl 1 rfl ?_
  refine g_i2l hC dX0_isFrame_1 2 rfl ?_
  refine g_lconst (v := 0) hC dX0_isFrame_2 (by decide) 3 rfl ?_
  refine g_ldc2 hC q554 dX0_isFrame_3 6 rfl ?_
  refine g_calliP (g_S (As := [.long (Int32.toInt64 id), .long 0, .long 2047]) (rest := []) hC msX0_isIn q541 (met_isIn l G M (Int32.toInt64 id) 0 2047) ⟨rfl, rfl⟩ ⟨(Nat.le_of_ble_eq_true rfl), (Nat.le_of_ble_eq_true rfl)⟩ rfl (Nat.le_of_ble_eq_true rfl) dX0_isFrame_6 rfl ⟨(Nat.le_of_ble_eq_true rfl), (Nat.le_of_ble_eq_true rfl)⟩) 9 rfl 0 (Nat.le_of_ble_eq_true rfl) ?_
  refine g_topi (y := bI (decide (0 ≤ id ∧ id ≤ 2047))) (isIn_c 0 2047 (by decide) (by decide)) ?_
  refine g_if_eq hC dX0_isFrame_9 44 rfl 12 rfl (fun c_1 => ?_) (fun c_1 => ?_)
  · replace c_1 := bId_0 c_1
    refine g_iconst hC dX0_isFrame_44 ki_0 45 rfl ?_
    exact g_zret (v := 0) hC (by decide) (fun k9 hk9 => ⟨(bI_nd (by first | (simp only [okF, eq_false c_1, if_true, if_false, true_and, and_true, false_and, and_false, true_or, or_true, false_or, or_false, not_true_eq_false, not_false_eq_true, reduceIte, decide_true, decide_false, Bool.false_eq_true]; done) | simp_all [okF])), rfl, Nat.le_zero.mp hk9⟩) dX0_isFrame_45 (Nat.le_of_ble_eq_true rfl) (Nat.le_of_ble_eq_true rfl)
  · replace c_1 := bId_1 c_1
    refine g_iload_n hC dX0_isFrame_12 2 rfl 13 rfl ?_
    refine g_i2l hC dX0_isFrame_13 14 rfl ?_
    refine g_lconst (v := 0) hC dX0_isFrame_14 (by decide) 15 rfl ?_
    refine g_ldc2 hC q562 dX0_isFrame_15 18 rfl ?_
    refine g_calliP (g_S (As := [.long (Int32.toInt64 ln), .long 0, .long 4]) (rest := []) hC msX0_isIn q541 (met_isIn l G M (Int32.toInt64 ln) 0 4) ⟨rfl, rfl⟩ ⟨(Nat.le_of_ble_eq_true rfl), (Nat.le_of_ble_eq_true rfl)⟩ rfl (Nat.le_of_ble_eq_true rfl) dX0_isFrame_18 rfl ⟨(Nat.le_of_ble_eq_true rfl), (Nat.le_of_ble_eq_true rfl)⟩) 21 rfl 0 (Nat.le_of_ble_eq_true rfl) ?_
    refine g_topi (y := bI (decide (0 ≤ ln ∧ ln ≤ 4))) (isIn_c 0 4 (by decide) (by decide)) ?_
    refine g_if_eq hC dX0_isFrame_21 44 rfl 24 rfl (fun c_2 => ?_) (fun c_2 => ?_)
    · replace c_2 := bId_0 c_2
      refine g_iconst hC dX0_isFrame_44 ki_0 45 rfl ?_
      exact g_zret (v := 0) hC (by decide) (fun k9 hk9 => ⟨(bI_nd (by first | (simp only [okF, eq_true c_1, eq_false c_2, if_true, if_false, true_and, and_true, false_and, and_false, true_or, or_true, false_or, or_false, not_true_eq_false, not_false_eq_true, reduceIte, decide_true, decide_false, Bool.false_eq_true]; done) | simp_all [okF])), rfl, Nat.le_zero.mp hk9⟩) dX0_isFrame_45 (Nat.le_of_ble_eq_true rfl) (Nat.le_of_ble_eq_true rfl)
    · replace c_2 := bId_1 c_2
      refine g_iload_n hC dX0_isFrame_24 2 rfl 25 rfl ?_
      refine g_iload_n hC dX0_isFrame_25 3 rfl 26 rfl ?_
      refine g_calliP (g_S (As := [.int ln, .int da]) (rest := []) hC msX9_fits q563 (met_Fr_fits l G M ln da) ⟨rfl, rfl⟩ ⟨(Nat.le_of_ble_eq_true rfl), (Nat.le_of_ble_eq_true rfl)⟩ rfl (Nat.le_of_ble_eq_true rfl) dX0_isFrame_26 rfl ⟨(Nat.le_of_ble_eq_true rfl), (Nat.le_of_ble_eq_true rfl)⟩) 29 rfl 0 (Nat.le_of_ble_eq_true rfl) ?_
      refine g_if_eq hC dX0_isFrame_29 44 rfl 32 rfl (fun c_3 => ?_) (fun c_3 => ?_)
      · replace c_3 := bId_0 c_3
        refine g_iconst hC dX0_isFrame_44 ki_0 45 rfl ?_
        exact g_zret (v := 0) hC (by decide) (fun k9 hk9 => ⟨(bI_nd (by first | (simp only [okF, eq_true c_1, eq_true c_2, eq_false c_3, if_true, if_false, true_and, and_true, false_and, and_false, true_or, or_true, false_or, or_false, not_true_eq_false, not_false_eq_true, reduceIte, decide_true, decide_false, Bool.false_eq_true]; done) | simp_all [okF])), rfl, Nat.le_zero.mp hk9⟩) dX0_isFrame_45 (Nat.le_of_ble_eq_true rfl) (Nat.le_of_ble_eq_true rfl)
      · replace c_3 := bId_1 c_3
        refine g_iload_n hC dX0_isFrame_32 1 rfl 33 rfl ?_
        refine g_if_eq hC dX0_isFrame_33 40 rfl 36 rfl (fun c_4 => ?_) (fun c_4 => ?_)
        · replace c_4 : rm = false := bB_e0 c_4
          refine g_iconst hC dX0_isFrame_40 ki_1 41 rfl ?_
          refine g_goto hC dX0_isFrame_41 45 rfl ?_
          exact g_zret (v := 1) hC (by decide) (fun k9 hk9 => ⟨(bI_d (by first | (simp only [okF, eq_true c_1, eq_true c_2, eq_true c_3, eq_false (bF_nt c_4), eq_true c_4, if_true, if_false, true_and, and_true, false_and, and_false, true_or, or_true, false_or, or_false, not_true_eq_false, not_false_eq_true, reduceIte, decide_true, decide_false, Bool.false_eq_true]; done) | simp_all [okF])), rfl, Nat.le_zero.mp hk9⟩) dX0_isFrame_45 (Nat.le_of_ble_eq_true rfl) (Nat.le_of_ble_eq_true rfl)
        · replace c_4 : rm = true := bB_n0 c_4
          refine g_iload_n hC dX0_isFrame_36 3 rfl 37 rfl ?_
          refine g_if_ne hC dX0_isFrame_37 44 rfl 40 rfl (fun c_5 => ?_) (fun c_5 => ?_)
          · refine g_iconst hC dX0_isFrame_44 ki_0 45 rfl ?_
            exact g_zret (v := 0) hC (by decide) (fun k9 hk9 => ⟨(bI_nd (by first | (simp only [okF, eq_true c_1, eq_true c_2, eq_true c_3, eq_true c_4, eq_false c_5, if_true, if_false, true_and, and_true, false_and, and_false, true_or, or_true, false_or, or_false, not_true_eq_false, not_false_eq_true, reduceIte, decide_true, decide_false, Bool.false_eq_true]; done) | simp_all [okF])), rfl, Nat.le_zero.mp hk9⟩) dX0_isFrame_45 (Nat.le_of_ble_eq_true rfl) (Nat.le_of_ble_eq_true rfl)
          · refine g_iconst hC dX0_isFrame_40 ki_1 41 rfl ?_
            refine g_goto hC dX0_isFrame_41 45 rfl ?_
            exact g_zret (v := 1) hC (by decide) (fun k9 hk9 => ⟨(bI_d (by first | (simp only [okF, eq_true c_1, eq_true c_2, eq_true c_3, eq_true c_4, eq_true c_5, if_true, if_false, true_and, and_true, false_and, and_false, true_or, or_true, false_or, or_false, not_true_eq_false, not_false_eq_true, reduceIte, decide_true, decide_false, Bool.false_eq_true]; done) | simp_all [okF])), rfl, Nat.le_zero.mp hk9⟩) dX0_isFrame_45 (Nat.le_of_ble_eq_true rfl) (Nat.le_of_ble_eq_true rfl)
theorem rel_cs {f : Nat → Int32} {k q : Nat} {x : NS} {V : List pqE} (h : relV f k q x V) : ∀ a, nSnd x = some a → ∃ d, (a, d) ∈ V := by
  intro a ha
  unfold nSnd at ha
  by_cases z : x.ph = 4 ∧ ¬ x.g 2 = 0
  · rw [if_pos z] at ha
    obtain ⟨b, ln, -, -, h3⟩ := h.2.2.2 z.1
    obtain ⟨ca, d, lw, a1, a2, -⟩ := h3 z.2
    rw [a1] at ha
    cases ha
    exact ⟨d, a2⟩
  · rw [if_neg z] at ha; cases ha
theorem relN.add {f : Nat → Int32} {k q y : Nat} {x : NS} {id ln da : Int32} {rm : Bool} (hk : k < 4) (hq : q < 1000000) (h : relN f k q x) (hW : x.W.length < 4) (hy : ∀ e ∈ x.W, e.1 ≠ y) (hln : ∃ n, n ≤ 4 ∧ ln = nI n) : relN (T_waits f k id (bI rm) ln da x.W.length) k (q + 1) (nAdd x y id rm ln da) := by
  obtain ⟨V, h⟩ := h
  have hp := h.1.2.2.1.1
  have hl := hp.length_eq
  obtain ⟨V', w1, w2, w3, w4, w5, w6⟩ := sim_waits (id := id) (rm := rm) (da := da) hk hq h.1.2.2.1 h.2.1 (by omega) (fun e he => hy e (hp.mem_iff.mp he)) (rel_cs h) hln
  rw [hl] at w1 w2 w5 w6
  have e : ∀ c, c < 256 → c ≠ 23 → (c < 30 ∨ 50 ≤ c) → T_waits f k id (bI rm) ln da x.W.length (256 * k + c) = f (256 * k + c) := w5
  refine ⟨V', ⟨(h.1.1.mono (Nat.le_succ q)).fr (fun c hc => e c (by omega) (by omega) (by omega)), ?_, w1, h.1.2.2.2.1.fr (fun c hc => e c (by omega) (by omega) (by omega)), h.1.2.2.2.2.1.fr (fun c hc => e c (by omega) (by omega) (by omega)), h.1.2.2.2.2.2.1, ?_⟩, w2, h.2.2.1.fr (fun c hc => e c (by omega) (by omega) (by omega)), fun z => ?_⟩
  · rw [e 13 (by omega) (by omega) (by omega)]; exact h.1.2.1
  · rw [e 19 (by omega) (by omega) (by omega)]; exact h.1.2.2.2.2.2.2
  · obtain ⟨b, ln', h1, h2, h3⟩ := h.2.2.2 z
    refine ⟨b, ln', h1.fr (fun c hc => e c (by omega) (by omega) (by omega)), h2.fr (e 22 (by omega) (by omega) (by omega)), fun g => ?_⟩
    obtain ⟨ca, d, lw, a1, a2, a3⟩ := h3 g
    exact ⟨ca, d, lw, a1, w3 _ a2, a3.fr (fun c hc => e c (by omega) (by omega) (by omega))⟩
theorem frs_ny {M : gM} {W : List pqE} {y : Nat} (h : frs M W) (hy : M y = none) : ∀ e ∈ W, e.1 ≠ y := fun e he z => by
  have := h e he
  rw [z, hy] at this
  cases this
theorem ln_n {ln : Int32} (h : 0 ≤ ln ∧ ln ≤ 4) : ∃ n, n ≤ 4 ∧ ln = nI n := by
  have h1 : (0 : Int) ≤ ln.toInt := Int32.le_iff_toInt_le.mp h.1
  have h2 : ln.toInt ≤ 4 := Int32.le_iff_toInt_le.mp h.2
  refine ⟨ln.toInt.toNat, by omega, ?_⟩
  rw [← Int32.toInt_inj, nI_toInt (by omega)]
  omega
theorem nAdd_len {x : NS} {y : Nat} {id ln da : Int32} {rm : Bool} (h : x.W.length < 4) : (nAdd x y id rm ln da).W.length = x.W.length + 1 := pqAdd_len h
theorem nw_eq {f : Nat → Int32} {k q nw : Nat} {x : NS} (h : relN f k q x) (hn : f (256 * k + 23) = nI nw) (h4 : nw ≤ 4) : x.W.length = nw := by
  have := h.n23
  exact nn_eq (by omega) (by omega) (this.1.symm.trans hn)
set_option maxHeartbeats 4000000 in
theorem met_X_request_n (l : Launch) (G : gG) (M : gM) (xa : Nat) (sv : Nat) (ms : Nat) (tx : Nat) (le : Int32) (ta : Nat) (of : Nat) (f : Nat → Int32) (q : Nat) (x : Int32) (id : Int32) (rm : Bool) (ln : Int32) (da : Int32) (hx : ¬ (0 ≤ x ∧ x ≤ 3)) (hM_0 : M xa = some ((8, 0), .inr (0, [.ref of, .ref sv, .ref ms, .ref tx, .int le]))) : Met l yX0_request (ws_ yX0_request cX0_request 7 (some .int)) ({ frames := 2, cells := 0, slots := 0, locals := 45 }) (gPc G [.ref xa, .int x, .int id, .int (bI rm), .int ln, .int da] M) (gQi G (fun r9 M9 k9 => r9 = (-1) ∧ M9 = M ∧ k9 = 0)) 0 0 (gA G) := by
  refine gMet [(0, .ref xa), (1, .int x), (2, .int id), (3, .int (bI rm)), (4, .int ln), (5, .int da)] (by decide) (Nat.le_of_ble_eq_true rfl) rfl ?_
  intro p e s m below meth c hC
  refine g_iload_n hC dX0_request_0 1 rfl 1 rfl ?_
  refine g_calliP (g_S (As := [.int x]) (rest := []) hC msX0_isNode q550 (met_X_isNode l G M x) ⟨rfl, rfl⟩ ⟨(Nat.le_of_ble_eq_true rfl), (Nat.le_of_ble_eq_true rfl)⟩ rfl (Nat.le_of_ble_eq_true rfl) dX0_request_1 rfl ⟨(Nat.le_of_ble_eq_true rfl), (Nat.le_of_ble_eq_true rfl)⟩) 4 rfl 0 (Nat.le_of_ble_eq_true rfl) ?_
  refine g_if_ne hC dX0_request_4 9 rfl 7 rfl (fun c_1 => ?_) (fun c_1 => ?_)
  · replace c_1 := bId_1 c_1
    exact absurd c_1 hx
  · replace c_1 := bId_0 c_1
    refine g_iconst hC dX0_request_7 ki_m1 8 rfl ?_
    exact g_iret (v := -1) hC (fun k9 hk9 => ⟨rfl, rfl, Nat.le_zero.mp hk9⟩) dX0_request_8 (Nat.le_of_ble_eq_true rfl) (Nat.le_of_ble_eq_true rfl)
set_option maxHeartbeats 4000000 in
theorem met_X_request (l : Launch) (G : gG) (M : gM) (xa : Nat) (sv : Nat) (ms : Nat) (tx : Nat) (le : Int32) (ta : Nat) (of : Nat) (f : Nat → Int32) (q : Nat) (k : Nat) (id : Int32) (rm : Bool) (ln : Int32) (da : Int32) (nw : Nat) (hta : 2 ≤ ta ∧ ta < 9) (hk : k < 4) (hq : q < 1000000) (hnw : f (256 * k + 23) = nI nw) (hnw4 : nw ≤ 4) (hM_0 : M xa = some ((8, 0), .inr (0, [.ref of, .ref sv, .ref ms, .ref tx, .int le]))) (hP_0 : busR M G ta of f q) : Met l yX0_request (ws_ yX0_request cX0_request 7 (some .int)) ({ frames := 8, cells := 1, slots := 5, locals := 210 }) (gPc G [.ref xa, .int (nI k), .int id, .int (bI rm), .int ln, .int da] M) (gQi G (fun r9 M9 k9 => r9 = (if okF id rm ln da then (if nw < 4 then T_waits f k id (if rm = true then 1 else 0) ln da nw (256 * k + 23) else -3) else -2) ∧ busR M9 G ta of (if okF id rm ln da ∧ nw < 4 then T_waits f k id (if rm = true then 1 else 0) ln da nw else f) (q + 1) ∧ gFr (gT (fun t => t.1 = ta ∨ t.1 = 9)) M M9 ∧ k9 ≤ 1)) 1 5 (gA G) := by
  refine gMet [(0, .ref xa), (1, .int (nI k)), (2, .int id), (3, .int (bI rm)), (4, .int ln), (5, .int da)] (by decide) (Nat.le_of_ble_eq_true rfl) rfl ?_
  intro p e s m below meth c hC
  refine g_iload_n hC dX0_request_0 1 rfl 1 rfl ?_
  refine g_calliP (g_S (As := [.int (nI k)]) (rest := []) hC msX0_isNode q550 (met_X_isNode l G M (nI k)) ⟨rfl, rfl⟩ ⟨(Nat.le_of_ble_eq_true rfl), (Nat.le_of_ble_eq_true rfl)⟩ rfl (Nat.le_of_ble_eq_true rfl) dX0_request_1 rfl ⟨(Nat.le_of_ble_eq_true rfl), (Nat.le_of_ble_eq_true rfl)⟩) 4 rfl 0 (Nat.le_of_ble_eq_true rfl) ?_
  refine g_if_ne hC dX0_request_4 9 rfl 7 rfl (fun c_1 => ?_) (fun c_1 => ?_)
  · replace c_1 := bId_1 c_1
    refine g_iload_n hC dX0_request_9 2 rfl 10 rfl ?_
    refine g_iload_n hC dX0_request_10 3 rfl 11 rfl ?_
    refine g_iload hC dX0_request_11 4 rfl 13 rfl ?_
    refine g_iload hC dX0_request_13 5 rfl 15 rfl ?_
    refine g_calliP (g_S (As := [.int id, .int (bI rm), .int ln, .int da]) (rest := []) hC msX0_isFrame q559 (met_X_isFrame l G M id rm ln da) ⟨rfl, rfl⟩ ⟨(Nat.le_of_ble_eq_true rfl), (Nat.le_of_ble_eq_true rfl)⟩ rfl (Nat.le_of_ble_eq_true rfl) dX0_request_15 rfl ⟨(Nat.le_of_ble_eq_true rfl), (Nat.le_of_ble_eq_true rfl)⟩) 18 rfl 0 (Nat.le_of_ble_eq_true rfl) ?_
    refine g_if_ne hC dX0_request_18 24 rfl 21 rfl (fun c_2 => ?_) (fun c_2 => ?_)
    · replace c_2 := bId_1 c_2
      obtain ⟨bn_z3, bd_z3, bh_z3, nd_z3, tn_z3, pl_z3, ol_z3, rv_z3, A_z3, x_z3, b0_z3, b1_z3, hA_z3, hN_z3, hR_z3, ht_z3, hl_z3, hp_z3, hW_z3⟩ := busR.nd hP_0 hta (show k < 4 by omega)
      have hph9 := (relN.ph hR_z3).2
      have hnW := nw_eq hR_z3 hnw hnw4
      obtain ⟨sa_z4, wa_z4, rc_z4, an_z4, er_z4, wq_z4, wm_z4, hO_z4, hW_z4, hA_z4, hf_z4, hl_z4⟩ := isNd.wc hN_z3
      refine g_aload_n hC dX0_request_24 0 rfl gRef_r 25 rfl ?_
      refine g_get (v := .ref of) hC cI0 hM_0 0 (Nat.le_of_ble_eq_true rfl) q517 rfl dX0_request_25 28 rfl ?_
      refine g_getN (v := .ref bn_z3) hC cI1 b0_z3 0 (Nat.le_of_ble_eq_true rfl) q470 rfl dX0_request_28 31 rfl ?_
      refine g_iload_n hC dX0_request_31 1 rfl 32 rfl ?_
      refine g_aldq (r := some nd_z3) hC b1_z3 4 rfl (vp_in_nI (by omega) (by omega)) ((congrArg A_z3 (nI_clamp (by omega))).trans hA_z3) dX0_request_32 33 rfl ?_
      refine g_astore hC dX0_request_33 gRef_r (Nat.le_of_ble_eq_true rfl) [(6, .ref nd_z3), (0, .ref xa), (1, .int (nI k)), (2, .int id), (3, .int (bI rm)), (4, .int ln), (5, .int da)] rfl 35 rfl ?_
      refine g_aload hC dX0_request_35 0 rfl gRef_r 37 rfl ?_
      refine g_getN (v := .ref wa_z4) hC cI2 hO_z4 12 (Nat.le_of_ble_eq_true rfl) q396 rfl dX0_request_37 40 rfl ?_
      refine g_calliP (g_V (As := []) (rest := []) hC mvJ6_size q1138 (gOf.of hC.K cI20 hW_z4) (met_PQ_size l G M wa_z4 wq_z4 (ta, 16 * k + 2) (0, 0) wm_z4 x_z3.W hW_z4) ⟨rfl, rfl⟩ ⟨(Nat.le_of_ble_eq_true rfl), (Nat.le_of_ble_eq_true rfl)⟩ rfl (Nat.le_of_ble_eq_true rfl) dX0_request_40 rfl ⟨(Nat.le_of_ble_eq_true rfl), (Nat.le_of_ble_eq_true rfl)⟩) 43 rfl 0 (Nat.le_of_ble_eq_true rfl) ?_
      refine g_iconst hC dX0_request_43 ki_4 44 rfl ?_
      refine g_icmp_ne hC dX0_request_44 50 rfl 47 rfl (fun c_5 => ?_) (fun c_5 => ?_)
      · replace c_5 : ¬ x_z3.W.length = 4 := nn_neq (by omega) (by omega) c_5
        refine g_aload hC dX0_request_50 0 rfl gRef_r 52 rfl ?_
        refine g_iload_n hC dX0_request_52 3 rfl 53 rfl ?_
        refine g_iload_n hC dX0_request_53 4 rfl 54 rfl ?_
        refine g_iload hC dX0_request_54 5 rfl 56 rfl ?_
        refine g_iload hC dX0_request_56 6 rfl 58 rfl ?_
        refine g_callv (g_V (As := [.int id, .int (bI rm), .int ln, .int da]) (rest := []) hC mvX2_add q1142 (isNd.cls hC.K hN_z3) (met_N_add l G M ta k of nd_z3 x_z3 id rm ln da hta (by have := c_5; omega) hN_z3) ⟨rfl, rfl⟩ ⟨(Nat.le_of_ble_eq_true rfl), (Nat.le_of_ble_eq_true rfl)⟩ rfl (Nat.le_of_ble_eq_true rfl) dX0_request_58 rfl ⟨(Nat.le_of_ble_eq_true rfl), (Nat.le_of_ble_eq_true rfl)⟩) 1 (Nat.le_of_ble_eq_true rfl) 5 (Nat.le_of_ble_eq_true rfl) 61 rfl (fun M6 k7 hp8 => ?_)
        obtain ⟨y_10, hpd11, hF12, hq13, hk14⟩ := hp8
        obtain ⟨sa_z15, wa_z15, rc_z15, an_z15, er_z15, wq_z15, wm_z15, hO_z15, hW_z15, hA_z15, hf_z15, hl_z15⟩ := isNd.wc hpd11
        refine g_aload hC dX0_request_61 0 rfl gRef_r 63 rfl ?_
        refine g_getN (v := .ref wa_z15) hC cI2 hO_z15 12 (Nat.le_of_ble_eq_true rfl) q396 rfl dX0_request_63 66 rfl ?_
        refine g_calliP (g_V (As := []) (rest := []) hC mvJ6_size q1138 (gOf.of hC.K cI20 hW_z15) (met_PQ_size l G M6 wa_z15 wq_z15 (ta, 16 * k + 2) (0, 0) wm_z15 ((nAdd x_z3 y_10 id rm ln da).W) hW_z15) ⟨rfl, rfl⟩ ⟨(Nat.le_of_ble_eq_true rfl), (Nat.le_of_ble_eq_true rfl)⟩ rfl (Nat.le_of_ble_eq_true rfl) dX0_request_66 rfl ⟨(Nat.le_of_ble_eq_true rfl), (Nat.le_of_ble_eq_true rfl)⟩) 69 rfl 5 (Nat.le_of_ble_eq_true rfl) ?_
        refine g_topi (y := nI (((nAdd x_z3 y_10 id rm ln da).W).length)) (congrArg nI (show ((nAdd x_z3 y_10 id rm ln da).W).length = ((nAdd x_z3 y_10 id rm ln da).W).length by omega)) ?_
        exact g_iret (v := nI (((nAdd x_z3 y_10 id rm ln da).W).length)) hC (fun k9 hk9 => ⟨(by rw [if_pos c_2, if_pos (by have := c_5; omega), waits_23, hnw, ← hnW, nAdd_len (by have := c_5; omega)]; exact (nI_1 _).symm), (by rw [if_pos ⟨c_2, by have := c_5; omega⟩, ← hnW, bI_if]; exact hW_z3 _ _ _ _ (Nat.le_succ _) (show gFr (gT (ndT9 ta k)) M M6 from (gFr.refl.trans (hF12.mono (fun b t h => by obtain ⟨u9, v9⟩ := t; revert h; (try simp only [ndT, tgE, gT, tgR, ndT9, ndW, tg0, Prod.mk.injEq, true_and, and_true, cpyT]); first | done | omega | (simp; done) | (intro h; simp_all; done))))) hpd11 (relN.add hk hq hR_z3 (by have := c_5; omega) (frs_ny hf_z4 hq13) (ln_n c_2.2.1)) (loc_waits loc.rf (by have := c_5; omega))), (gFr.refl.trans (hF12.mono (fun b t h => by obtain ⟨u9, v9⟩ := t; revert h; (try simp only [ndT, tgE, gT, tgR, ndT9, ndW, tg0, Prod.mk.injEq, true_and, and_true, cpyT]); first | done | omega | (simp; done) | (intro h; simp_all; done)))), (by first | exact Nat.le_zero.mp hk9 | omega)⟩) dX0_request_69 (Nat.le_of_ble_eq_true rfl) (Nat.le_of_ble_eq_true rfl)
      · replace c_5 : x_z3.W.length = 4 := nn_eq (by omega) (by omega) c_5
        refine g_bipush hC dX0_request_47 kb_m3 49 rfl ?_
        exact g_iret (v := -3) hC (fun k9 hk9 => ⟨(by rw [if_pos c_2, if_neg (by have := c_5; omega)]), (by rw [if_neg (fun q9 => absurd q9.2 (by have := c_5; omega))]; exact hP_0.mono (Nat.le_succ _)), gFr.refl, (by first | exact Nat.le_zero.mp hk9 | omega)⟩) dX0_request_49 (Nat.le_of_ble_eq_true rfl) (Nat.le_of_ble_eq_true rfl)
    · replace c_2 := bId_0 c_2
      refine g_bipush hC dX0_request_21 kb_m2 23 rfl ?_
      exact g_iret (v := -2) hC (fun k9 hk9 => ⟨(by rw [if_neg c_2]), (by rw [if_neg (fun q9 => absurd q9.1 c_2)]; exact hP_0.mono (Nat.le_succ _)), gFr.refl, (by first | exact Nat.le_zero.mp hk9 | omega)⟩) dX0_request_23 (Nat.le_of_ble_eq_true rfl) (Nat.le_of_ble_eq_true rfl)
  · replace c_1 := bId_0 c_1
    exact absurd (nk_in hk) c_1
