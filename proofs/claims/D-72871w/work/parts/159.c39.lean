/-! the public methods over the packed bus: what only reads (2) -/
set_option maxRecDepth 100000
theorem isNd.oc {M : gM} {G : gG} {ta k of nd : Nat} {x : NS} (h : isNd M G ta k of nd x) : ∃ sa wa rc an er rq rh, M nd = some ((ta, 16 * k), .inr (2, ndL G of x.ph x.cu sa wa rc an er x.g)) ∧ M rc = some ((ta, 16 * k + 4), .inr (22, [.ref rq, .int (nI rh), .int (nI ((rh + x.R.length) % 8))])) ∧ M rq = some ((ta, 16 * k + 5), .inl (gcs G 3, 8, .inr (.inr (.inr (.inr (dqA rh x.R)))))) ∧ M er = some ((ta, 16 * k + 8), .inl (gcs G 0, 6, .inl x.e)) ∧ frs M x.R ∧ rh < 8 ∧ x.R.length ≤ 6 := by
  obtain ⟨sa, wa, rc, an, er, wq, wm, rq, rh, h0, h1, h2, h3, h4, h5, h8, f1, f2, tm, aw, i1, i2, i3⟩ := h
  exact ⟨sa, wa, rc, an, er, rq, rh, h0, h4, h5, h8, f2, i2, i3⟩
set_option maxHeartbeats 4000000 in
theorem met_X_phase_n (l : Launch) (G : gG) (M : gM) (xa : Nat) (sv : Nat) (ms : Nat) (tx : Nat) (le : Int32) (ta : Nat) (of : Nat) (f : Nat → Int32) (q : Nat) (x : Int32) (hx : ¬ (0 ≤ x ∧ x ≤ 3)) (hM_0 : M xa = some ((8, 0), .inr (0, [.ref of, .ref sv, .ref ms, .ref tx, .int le]))) : Met l yX0_phase (ws_ yX0_phase cX0_phase 2 (some .int)) ({ frames := 2, cells := 0, slots := 0, locals := 45 }) (gPc G [.ref xa, .int x] M) (gQi G (fun r9 M9 k9 => r9 = (-1) ∧ M9 = M ∧ k9 = 0)) 0 0 (gA G) := by
  refine gMet [(0, .ref xa), (1, .int x)] (by decide) (Nat.le_of_ble_eq_true rfl) rfl ?_
  intro p e s m below meth c hC
  refine g_iload_n hC dX0_phase_0 1 rfl 1 rfl ?_
  refine g_calliP (g_S (As := [.int x]) (rest := []) hC msX0_isNode q550 (met_X_isNode l G M x) ⟨rfl, rfl⟩ ⟨(Nat.le_of_ble_eq_true rfl), (Nat.le_of_ble_eq_true rfl)⟩ rfl (Nat.le_of_ble_eq_true rfl) dX0_phase_1 rfl ⟨(Nat.le_of_ble_eq_true rfl), (Nat.le_of_ble_eq_true rfl)⟩) 4 rfl 0 (Nat.le_of_ble_eq_true rfl) ?_
  refine g_if_eq hC dX0_phase_4 25 rfl 7 rfl (fun c_1 => ?_) (fun c_1 => ?_)
  · replace c_1 := bId_0 c_1
    refine g_iconst hC dX0_phase_25 ki_m1 26 rfl ?_
    exact g_iret (v := -1) hC (fun k9 hk9 => ⟨rfl, rfl, Nat.le_zero.mp hk9⟩) dX0_phase_26 (Nat.le_of_ble_eq_true rfl) (Nat.le_of_ble_eq_true rfl)
  · replace c_1 := bId_1 c_1
    exact absurd c_1 hx
set_option maxHeartbeats 4000000 in
theorem met_X_phase (l : Launch) (G : gG) (M : gM) (xa : Nat) (sv : Nat) (ms : Nat) (tx : Nat) (le : Int32) (ta : Nat) (of : Nat) (f : Nat → Int32) (q : Nat) (k : Nat) (hta : 2 ≤ ta ∧ ta < 9) (hk : k < 4) (hM_0 : M xa = some ((8, 0), .inr (0, [.ref of, .ref sv, .ref ms, .ref tx, .int le]))) (hP_0 : busR M G ta of f q) : Met l yX0_phase (ws_ yX0_phase cX0_phase 2 (some .int)) ({ frames := 2, cells := 0, slots := 0, locals := 45 }) (gPc G [.ref xa, .int (nI k)] M) (gQi G (fun r9 M9 k9 => r9 = (f (256 * k + 0)) ∧ M9 = M ∧ k9 = 0)) 0 0 (gA G) := by
  refine gMet [(0, .ref xa), (1, .int (nI k))] (by decide) (Nat.le_of_ble_eq_true rfl) rfl ?_
  intro p e s m below meth c hC
  refine g_iload_n hC dX0_phase_0 1 rfl 1 rfl ?_
  refine g_calliP (g_S (As := [.int (nI k)]) (rest := []) hC msX0_isNode q550 (met_X_isNode l G M (nI k)) ⟨rfl, rfl⟩ ⟨(Nat.le_of_ble_eq_true rfl), (Nat.le_of_ble_eq_true rfl)⟩ rfl (Nat.le_of_ble_eq_true rfl) dX0_phase_1 rfl ⟨(Nat.le_of_ble_eq_true rfl), (Nat.le_of_ble_eq_true rfl)⟩) 4 rfl 0 (Nat.le_of_ble_eq_true rfl) ?_
  refine g_if_eq hC dX0_phase_4 25 rfl 7 rfl (fun c_1 => ?_) (fun c_1 => ?_)
  · replace c_1 := bId_0 c_1
    exact absurd (nk_in hk) c_1
  · replace c_1 := bId_1 c_1
    obtain ⟨bn_z2, bd_z2, bh_z2, nd_z2, tn_z2, pl_z2, ol_z2, rv_z2, A_z2, x_z2, b0_z2, b1_z2, hA_z2, hN_z2, hR_z2, ht_z2, hl_z2, hp_z2, hW_z2⟩ := busR.nd hP_0 hta (show k < 4 by omega)
    obtain ⟨sa_z3, wa_z3, rc_z3, an_z3, er_z3, hO_z3⟩ := isNd.cell hN_z2
    have hph9 := (relN.ph hR_z2).2
    refine g_aload_n hC dX0_phase_7 0 rfl gRef_r 8 rfl ?_
    refine g_get (v := .ref of) hC cI0 hM_0 0 (Nat.le_of_ble_eq_true rfl) q517 rfl dX0_phase_8 11 rfl ?_
    refine g_getN (v := .ref bn_z2) hC cI1 b0_z2 0 (Nat.le_of_ble_eq_true rfl) q470 rfl dX0_phase_11 14 rfl ?_
    refine g_iload_n hC dX0_phase_14 1 rfl 15 rfl ?_
    refine g_aldq (r := some nd_z2) hC b1_z2 4 rfl (vp_in_nI (by omega) (by omega)) ((congrArg A_z2 (nI_clamp (by omega))).trans hA_z2) dX0_phase_15 16 rfl ?_
    refine g_getN (v := .ref (gph G x_z2.ph)) hC cI2 hO_z3 1 (Nat.le_of_ble_eq_true rfl) q371 rfl dX0_phase_16 19 rfl ?_
    rcases (show x_z2.ph = 0 ∨ x_z2.ph = 1 ∨ x_z2.ph = 2 ∨ x_z2.ph = 3 ∨ x_z2.ph = 4 ∨ x_z2.ph = 5 ∨ x_z2.ph = 6 ∨ x_z2.ph = 7 ∨ x_z2.ph = 8 ∨ x_z2.ph = 9 by omega) with hp9 | hp9 | hp9 | hp9 | hp9 | hp9 | hp9 | hp9 | hp9 | hp9
    · refine g_topv (y := .ref (gph G 0)) (by rw [hp9]) ?_
      refine g_calliP (g_U (n := 0) (As := []) (rest := []) hC ⟨q1105, q1107, q1117, q109, q1118, (Or.inl rfl), by decide +kernel⟩ q1104 (show gOf G s _ "ArbitratedBus$Phase$1" (gph G 0) from gOf.ph hC.K (by decide)) (met_ordinal l G M 0 (by first | assumption | decide | omega | (dsimp only; omega) | simp_all)) ⟨rfl, rfl⟩ ⟨(Nat.le_of_ble_eq_true rfl), (Nat.le_of_ble_eq_true rfl)⟩ rfl (Nat.le_of_ble_eq_true rfl) dX0_phase_19 rfl ⟨(Nat.le_of_ble_eq_true rfl), (Nat.le_of_ble_eq_true rfl)⟩) 22 rfl 0 (Nat.le_of_ble_eq_true rfl) ?_
      refine g_goto hC dX0_phase_22 26 rfl ?_
      exact g_iret (v := nI 0) hC (fun k9 hk9 => ⟨(by rw [← relN.fp hR_z2, hp9]), rfl, Nat.le_zero.mp hk9⟩) dX0_phase_26 (Nat.le_of_ble_eq_true rfl) (Nat.le_of_ble_eq_true rfl)
    · refine g_topv (y := .ref (gph G 1)) (by rw [hp9]) ?_
      refine g_calliP (g_U (n := 0) (As := []) (rest := []) hC ⟨q1105, q1109, q1117, q109, q1118, (Or.inl rfl), by decide +kernel⟩ q1104 (show gOf G s _ "ArbitratedBus$Phase$2" (gph G 1) from gOf.ph hC.K (by decide)) (met_ordinal l G M 1 (by first | assumption | decide | omega | (dsimp only; omega) | simp_all)) ⟨rfl, rfl⟩ ⟨(Nat.le_of_ble_eq_true rfl), (Nat.le_of_ble_eq_true rfl)⟩ rfl (Nat.le_of_ble_eq_true rfl) dX0_phase_19 rfl ⟨(Nat.le_of_ble_eq_true rfl), (Nat.le_of_ble_eq_true rfl)⟩) 22 rfl 0 (Nat.le_of_ble_eq_true rfl) ?_
      refine g_goto hC dX0_phase_22 26 rfl ?_
      exact g_iret (v := nI 1) hC (fun k9 hk9 => ⟨(by rw [← relN.fp hR_z2, hp9]), rfl, Nat.le_zero.mp hk9⟩) dX0_phase_26 (Nat.le_of_ble_eq_true rfl) (Nat.le_of_ble_eq_true rfl)
    · refine g_topv (y := .ref (gph G 2)) (by rw [hp9]) ?_
      refine g_calliP (g_U (n := 0) (As := []) (rest := []) hC ⟨q1105, q1110, q1117, q109, q1118, (Or.inl rfl), by decide +kernel⟩ q1104 (show gOf G s _ "ArbitratedBus$Phase$3" (gph G 2) from gOf.ph hC.K (by decide)) (met_ordinal l G M 2 (by first | assumption | decide | omega | (dsimp only; omega) | simp_all)) ⟨rfl, rfl⟩ ⟨(Nat.le_of_ble_eq_true rfl), (Nat.le_of_ble_eq_true rfl)⟩ rfl (Nat.le_of_ble_eq_true rfl) dX0_phase_19 rfl ⟨(Nat.le_of_ble_eq_true rfl), (Nat.le_of_ble_eq_true rfl)⟩) 22 rfl 0 (Nat.le_of_ble_eq_true rfl) ?_
      refine g_goto hC dX0_phase_22 26 rfl ?_
      exact g_iret (v := nI 2) hC (fun k9 hk9 => ⟨(by rw [← relN.fp hR_z2, hp9]), rfl, Nat.le_zero.mp hk9⟩) dX0_phase_26 (Nat.le_of_ble_eq_true rfl) (Nat.le_of_ble_eq_true rfl)
    · refine g_topv (y := .ref (gph G 3)) (by rw [hp9]) ?_
      refine g_calliP (g_U (n := 0) (As := []) (rest := []) hC ⟨q1105, q1111, q1117, q109, q1118, (Or.inl rfl), by decide +kernel⟩ q1104 (show gOf G s _ "ArbitratedBus$Phase$4" (gph G 3) from gOf.ph hC.K (by decide)) (met_ordinal l G M 3 (by first | assumption | decide | omega | (dsimp only; omega) | simp_all)) ⟨rfl, rfl⟩ ⟨(Nat.le_of_ble_eq_true rfl), (Nat.le_of_ble_eq_true rfl)⟩ rfl (Nat.le_of_ble_eq_true rfl) dX0_phase_19 rfl ⟨(Nat.le_of_ble_eq_true rfl), (Nat.le_of_ble_eq_true rfl)⟩) 22 rfl 0 (Nat.le_of_ble_eq_true rfl) ?_
      refine g_goto hC dX0_phase_22 26 rfl ?_
      exact g_iret (v := nI 3) hC (fun k9 hk9 => ⟨(by rw [← relN.fp hR_z2, hp9]), rfl, Nat.le_zero.mp hk9⟩) dX0_phase_26 (Nat.le_of_ble_eq_true rfl) (Nat.le_of_ble_eq_true rfl)
    · refine g_topv (y := .ref (gph G 4)) (by rw [hp9]) ?_
      refine g_calliP (g_U (n := 0) (As := []) (rest := []) hC ⟨q1105, q1112, q1117, q109, q1118, (Or.inl rfl), by decide +kernel⟩ q1104 (show gOf G s _ "ArbitratedBus$Phase$5" (gph G 4) from gOf.ph hC.K (by decide)) (met_ordinal l G M 4 (by first | assumption | decide | omega | (dsimp only; omega) | simp_all)) ⟨rfl, rfl⟩ ⟨(Nat.le_of_ble_eq_true rfl), (Nat.le_of_ble_eq_true rfl)⟩ rfl (Nat.le_of_ble_eq_true rfl) dX0_phase_19 rfl ⟨(Nat.le_of_ble_eq_true rfl), (Nat.le_of_ble_eq_true rfl)⟩) 22 rfl 0 (Nat.le_of_ble_eq_true rfl) ?_
      refine g_goto hC dX0_phase_22 26 rfl ?_
      exact g_iret (v := nI 4) hC (fun k9 hk9 => ⟨(by rw [← relN.fp hR_z2, hp9]), rfl, Nat.le_zero.mp hk9⟩) dX0_phase_26 (Nat.le_of_ble_eq_true rfl) (Nat.le_of_ble_eq_true rfl)
    · refine g_topv (y := .ref (gph G 5)) (by rw [hp9]) ?_
      refine g_calliP (g_U (n := 0) (As := []) (rest := []) hC ⟨q1105, q1113, q1117, q109, q1118, (Or.inl rfl), by decide +kernel⟩ q1104 (show gOf G s _ "ArbitratedBus$Phase$6" (gph G 5) from gOf.ph hC.K (by decide)) (met_ordinal l G M 5 (by first | assumption | decide | omega | (dsimp only; omega) | simp_all)) ⟨rfl, rfl⟩ ⟨(Nat.le_of_ble_eq_true rfl), (Nat.le_of_ble_eq_true rfl)⟩ rfl (Nat.le_of_ble_eq_true rfl) dX0_phase_19 rfl ⟨(Nat.le_of_ble_eq_true rfl), (Nat.le_of_ble_eq_true rfl)⟩) 22 rfl 0 (Nat.le_of_ble_eq_true rfl) ?_
      refine g_goto hC dX0_phase_22 26 rfl ?_
      exact g_iret (v := nI 5) hC (fun k9 hk9 => ⟨(by rw [← relN.fp hR_z2, hp9]), rfl, Nat.le_zero.mp hk9⟩) dX0_phase_26 (Nat.le_of_ble_eq_true rfl) (Nat.le_of_ble_eq_true rfl)
    · refine g_topv (y := .ref (gph G 6)) (by rw [hp9]) ?_
      refine g_calliP (g_U (n := 0) (As := []) (rest := []) hC ⟨q1105, q1114, q1117, q109, q1118, (Or.inl rfl), by decide +kernel⟩ q1104 (show gOf G s _ "ArbitratedBus$Phase$7" (gph G 6) from gOf.ph hC.K (by decide)) (met_ordinal l G M 6 (by first | assumption | decide | omega | (dsimp only; omega) | simp_all)) ⟨rfl, rfl⟩ ⟨(Nat.le_of_ble_eq_true rfl), (Nat.le_of_ble_eq_true rfl)⟩ rfl (Nat.le_of_ble_eq_true rfl) dX0_phase_19 rfl ⟨(Nat.le_of_ble_eq_true rfl), (Nat.le_of_ble_eq_true rfl)⟩) 22 rfl 0 (Nat.le_of_ble_eq_true rfl) ?_
      refine g_goto hC dX0_phase_22 26 rfl ?_
      exact g_iret (v := nI 6) hC (fun k9 hk9 => ⟨(by rw [← relN.fp hR_z2, hp9]), rfl, Nat.le_zero.mp hk9⟩) dX0_phase_26 (Nat.le_of_ble_eq_true rfl) (Nat.le_of_ble_eq_true rfl)
    · refine g_topv (y := .ref (gph G 7)) (by rw [hp9]) ?_
      refine g_calliP (g_U (n := 0) (As := []) (rest := []) hC ⟨q1105, q1115, q1117, q109, q1118, (Or.inl rfl), by decide +kernel⟩ q1104 (show gOf G s _ "ArbitratedBus$Phase$8" (gph G 7) from gOf.ph hC.K (by decide)) (met_ordinal l G M 7 (by first | assumption | decide | omega | (dsimp only; omega) | simp_all)) ⟨rfl, rfl⟩ ⟨(Nat.le_of_ble_eq_true rfl), (Nat.le_of_ble_eq_true rfl)⟩ rfl (Nat.le_of_ble_eq_true rfl) dX0_phase_19 rfl ⟨(Nat.le_of_ble_eq_true rfl), (Nat.le_of_ble_eq_true rfl)⟩) 22 rfl 0 (Nat.le_of_ble_eq_true rfl) ?_
      refine g_goto hC dX0_phase_22 26 rfl ?_
      exact g_iret (v := nI 7) hC (fun k9 hk9 => ⟨(by rw [← relN.fp hR_z2, hp9]), rfl, Nat.le_zero.mp hk9⟩) dX0_phase_26 (Nat.le_of_ble_eq_true rfl) (Nat.le_of_ble_eq_true rfl)
    · refine g_topv (y := .ref (gph G 8)) (by rw [hp9]) ?_
      refine g_calliP (g_U (n := 0) (As := []) (rest := []) hC ⟨q1105, q1116, q1117, q109, q1118, (Or.inl rfl), by decide +kernel⟩ q1104 (show gOf G s _ "ArbitratedBus$Phase$9" (gph G 8) from gOf.ph hC.K (by decide)) (met_ordinal l G M 8 (by first | assumption | decide | omega | (dsimp only; omega) | simp_all)) ⟨rfl, rfl⟩ ⟨(Nat.le_of_ble_eq_true rfl), (Nat.le_of_ble_eq_true rfl)⟩ rfl (Nat.le_of_ble_eq_true rfl) dX0_phase_19 rfl ⟨(Nat.le_of_ble_eq_true rfl), (Nat.le_of_ble_eq_true rfl)⟩) 22 rfl 0 (Nat.le_of_ble_eq_true rfl) ?_
      refine g_goto hC dX0_phase_22 26 rfl ?_
      exact g_iret (v := nI 8) hC (fun k9 hk9 => ⟨(by rw [← relN.fp hR_z2, hp9]), rfl, Nat.le_zero.mp hk9⟩) dX0_phase_26 (Nat.le_of_ble_eq_true rfl) (Nat.le_of_ble_eq_true rfl)
    · refine g_topv (y := .ref (gph G 9)) (by rw [hp9]) ?_
      refine g_calliP (g_U (n := 0) (As := []) (rest := []) hC ⟨q1105, q1108, q1117, q109, q1118, (Or.inl rfl), by decide +kernel⟩ q1104 (show gOf G s _ "ArbitratedBus$Phase$10" (gph G 9) from gOf.ph hC.K (by decide)) (met_ordinal l G M 9 (by first | assumption | decide | omega | (dsimp only; omega) | simp_all)) ⟨rfl, rfl⟩ ⟨(Nat.le_of_ble_eq_true rfl), (Nat.le_of_ble_eq_true rfl)⟩ rfl (Nat.le_of_ble_eq_true rfl) dX0_phase_19 rfl ⟨(Nat.le_of_ble_eq_true rfl), (Nat.le_of_ble_eq_true rfl)⟩) 22 rfl 0 (Nat.le_of_ble_eq_true rfl) ?_
      refine g_goto hC dX0_phase_22 26 rfl ?_
      exact g_iret (v := nI 9) hC (fun k9 hk9 => ⟨(by rw [← relN.fp hR_z2, hp9]), rfl, Nat.le_zero.mp hk9⟩) dX0_phase_26 (Nat.le_of_ble_eq_true rfl) (Nat.le_of_ble_eq_true rfl)
set_option maxHeartbeats 4000000 in
theorem met_X_waiting_n (l : Launch) (G : gG) (M : gM) (xa : Nat) (sv : Nat) (ms : Nat) (tx : Nat) (le : Int32) (ta : Nat) (of : Nat) (f : Nat → Int32) (q : Nat) (x : Int32) (hx : ¬ (0 ≤ x ∧ x ≤ 3)) (hM_0 : M xa = some ((8, 0), .inr (0, [.ref of, .ref sv, .ref ms, .ref tx, .int le]))) : Met l yX0_waiting (ws_ yX0_waiting cX0_waiting 2 (some .int)) ({ frames := 2, cells := 0, slots := 0, locals := 45 }) (gPc G [.ref xa, .int x] M) (gQi G (fun r9 M9 k9 => r9 = (-1) ∧ M9 = M ∧ k9 = 0)) 0 0 (gA G) := by
  refine gMet [(0, .ref xa), (1, .int x)] (by decide) (Nat.le_of_ble_eq_true rfl) rfl ?_
  intro p e s m below meth c hC
  refine g_iload_n hC dX0_waiting_0 1 rfl 1 rfl ?_
  refine g_calliP (g_S (As := [.int x]) (rest := []) hC msX0_isNode q550 (met_X_isNode l G M x) ⟨rfl, rfl⟩ ⟨(Nat.le_of_ble_eq_true rfl), (Nat.le_of_ble_eq_true rfl)⟩ rfl (Nat.le_of_ble_eq_true rfl) dX0_waiting_1 rfl ⟨(Nat.le_of_ble_eq_true rfl), (Nat.le_of_ble_eq_true rfl)⟩) 4 rfl 0 (Nat.le_of_ble_eq_true rfl) ?_
  refine g_if_eq hC dX0_waiting_4 25 rfl 7 rfl (fun c_1 => ?_) (fun c_1 => ?_)
  · replace c_1 := bId_0 c_1
    refine g_iconst hC dX0_waiting_25 ki_m1 26 rfl ?_
    exact g_iret (v := -1) hC (fun k9 hk9 => ⟨rfl, rfl, Nat.le_zero.mp hk9⟩) dX0_waiting_26 (Nat.le_of_ble_eq_true rfl) (Nat.le_of_ble_eq_true rfl)
  · replace c_1 := bId_1 c_1
    exact absurd c_1 hx
set_option maxHeartbeats 4000000 in
theorem met_X_waiting (l : Launch) (G : gG) (M : gM) (xa : Nat) (sv : Nat) (ms : Nat) (tx : Nat) (le : Int32) (ta : Nat) (of : Nat) (f : Nat → Int32) (q : Nat) (k : Nat) (hta : 2 ≤ ta ∧ ta < 9) (hk : k < 4) (hM_0 : M xa = some ((8, 0), .inr (0, [.ref of, .ref sv, .ref ms, .ref tx, .int le]))) (hP_0 : busR M G ta of f q) : Met l yX0_waiting (ws_ yX0_waiting cX0_waiting 2 (some .int)) ({ frames := 2, cells := 0, slots := 0, locals := 45 }) (gPc G [.ref xa, .int (nI k)] M) (gQi G (fun r9 M9 k9 => r9 = (f (256 * k + 23)) ∧ M9 = M ∧ k9 = 0)) 0 0 (gA G) := by
  refine gMet [(0, .ref xa), (1, .int (nI k))] (by decide) (Nat.le_of_ble_eq_true rfl) rfl ?_
  intro p e s m below meth c hC
  refine g_iload_n hC dX0_waiting_0 1 rfl 1 rfl ?_
  refine g_calliP (g_S (As := [.int (nI k)]) (rest := []) hC msX0_isNode q550 (met_X_isNode l G M (nI k)) ⟨rfl, rfl⟩ ⟨(Nat.le_of_ble_eq_true rfl), (Nat.le_of_ble_eq_true rfl)⟩ rfl (Nat.le_of_ble_eq_true rfl) dX0_waiting_1 rfl ⟨(Nat.le_of_ble_eq_true rfl), (Nat.le_of_ble_eq_true rfl)⟩) 4 rfl 0 (Nat.le_of_ble_eq_true rfl) ?_
  refine g_if_eq hC dX0_waiting_4 25 rfl 7 rfl (fun c_1 => ?_) (fun c_1 => ?_)
  · replace c_1 := bId_0 c_1
    exact absurd (nk_in hk) c_1
  · replace c_1 := bId_1 c_1
    obtain ⟨bn_z2, bd_z2, bh_z2, nd_z2, tn_z2, pl_z2, ol_z2, rv_z2, A_z2, x_z2, b0_z2, b1_z2, hA_z2, hN_z2, hR_z2, ht_z2, hl_z2, hp_z2, hW_z2⟩ := busR.nd hP_0 hta (show k < 4 by omega)
    obtain ⟨sa_z3, wa_z3, rc_z3, an_z3, er_z3, wq_z3, wm_z3, hO_z3, hW_z3, hA_z3, hf_z3, hl_z3⟩ := isNd.wc hN_z2
    refine g_aload_n hC dX0_waiting_7 0 rfl gRef_r 8 rfl ?_
    refine g_get (v := .ref of) hC cI0 hM_0 0 (Nat.le_of_ble_eq_true rfl) q517 rfl dX0_waiting_8 11 rfl ?_
    refine g_getN (v := .ref bn_z2) hC cI1 b0_z2 0 (Nat.le_of_ble_eq_true rfl) q470 rfl dX0_waiting_11 14 rfl ?_
    refine g_iload_n hC dX0_waiting_14 1 rfl 15 rfl ?_
    refine g_aldq (r := some nd_z2) hC b1_z2 4 rfl (vp_in_nI (by omega) (by omega)) ((congrArg A_z2 (nI_clamp (by omega))).trans hA_z2) dX0_waiting_15 16 rfl ?_
    refine g_getN (v := .ref wa_z3) hC cI2 hO_z3 12 (Nat.le_of_ble_eq_true rfl) q396 rfl dX0_waiting_16 19 rfl ?_
    refine g_calliP (g_V (As := []) (rest := []) hC mvJ6_size q1138 (gOf.of hC.K cI20 hW_z3) (met_PQ_size l G M wa_z3 wq_z3 (ta, 16 * k + 2) (0, 0) wm_z3 x_z2.W hW_z3) ⟨rfl, rfl⟩ ⟨(Nat.le_of_ble_eq_true rfl), (Nat.le_of_ble_eq_true rfl)⟩ rfl (Nat.le_of_ble_eq_true rfl) dX0_waiting_19 rfl ⟨(Nat.le_of_ble_eq_true rfl), (Nat.le_of_ble_eq_true rfl)⟩) 22 rfl 0 (Nat.le_of_ble_eq_true rfl) ?_
    refine g_goto hC dX0_waiting_22 26 rfl ?_
    exact g_iret (v := nI x_z2.W.length) hC (fun k9 hk9 => ⟨(relN.wl hR_z2), rfl, Nat.le_zero.mp hk9⟩) dX0_waiting_26 (Nat.le_of_ble_eq_true rfl) (Nat.le_of_ble_eq_true rfl)
set_option maxHeartbeats 4000000 in
theorem met_X_received_n (l : Launch) (G : gG) (M : gM) (xa : Nat) (sv : Nat) (ms : Nat) (tx : Nat) (le : Int32) (ta : Nat) (of : Nat) (f : Nat → Int32) (q : Nat) (x : Int32) (hx : ¬ (0 ≤ x ∧ x ≤ 3)) (hM_0 : M xa = some ((8, 0), .inr (0, [.ref of, .ref sv, .ref ms, .ref tx, .int le]))) : Met l yX0_received (ws_ yX0_received cX0_received 2 (some .int)) ({ frames := 2, cells := 0, slots := 0, locals := 45 }) (gPc G [.ref xa, .int x] M) (gQi G (fun r9 M9 k9 => r9 = (-1) ∧ M9 = M ∧ k9 = 0)) 0 0 (gA G) := by
  refine gMet [(0, .ref xa), (1, .int x)] (by decide) (Nat.le_of_ble_eq_true rfl) rfl ?_
  intro p e s m below meth c hC
  refine g_iload_n hC dX0_received_0 1 rfl 1 rfl ?_
  refine g_calliP (g_S (As := [.int x]) (rest := []) hC msX0_isNode q550 (met_X_isNode l G M x) ⟨rfl, rfl⟩ ⟨(Nat.le_of_ble_eq_true rfl), (Nat.le_of_ble_eq_true rfl)⟩ rfl (Nat.le_of_ble_eq_true rfl) dX0_received_1 rfl ⟨(Nat.le_of_ble_eq_true rfl), (Nat.le_of_ble_eq_true rfl)⟩) 4 rfl 0 (Nat.le_of_ble_eq_true rfl) ?_
  refine g_if_eq hC dX0_received_4 25 rfl 7 rfl (fun c_1 => ?_) (fun c_1 => ?_)
  · replace c_1 := bId_0 c_1
    refine g_iconst hC dX0_received_25 ki_m1 26 rfl ?_
    exact g_iret (v := -1) hC (fun k9 hk9 => ⟨rfl, rfl, Nat.le_zero.mp hk9⟩) dX0_received_26 (Nat.le_of_ble_eq_true rfl) (Nat.le_of_ble_eq_true rfl)
  · replace c_1 := bId_1 c_1
    exact absurd c_1 hx
set_option maxHeartbeats 4000000 in
theorem met_X_received (l : Launch) (G : gG) (M : gM) (xa : Nat) (sv : Nat) (ms : Nat) (tx : Nat) (le : Int32) (ta : Nat) (of : Nat) (f : Nat → Int32) (q : Nat) (k : Nat) (hta : 2 ≤ ta ∧ ta < 9) (hk : k < 4) (hM_0 : M xa = some ((8, 0), .inr (0, [.ref of, .ref sv, .ref ms, .ref tx, .int le]))) (hP_0 : busR M G ta of f q) : Met l yX0_received (ws_ yX0_received cX0_received 2 (some .int)) ({ frames := 2, cells := 0, slots := 0, locals := 45 }) (gPc G [.ref xa, .int (nI k)] M) (gQi G (fun r9 M9 k9 => r9 = (f (256 * k + 24)) ∧ M9 = M ∧ k9 = 0)) 0 0 (gA G) := by
  refine gMet [(0, .ref xa), (1, .int (nI k))] (by decide) (Nat.le_of_ble_eq_true rfl) rfl ?_
  intro p e s m below meth c hC
  refine g_iload_n hC dX0_received_0 1 rfl 1 rfl ?_
  refine g_calliP (g_S (As := [.int (nI k)]) (rest := []) hC msX0_isNode q550 (met_X_isNode l G M (nI k)) ⟨rfl, rfl⟩ ⟨(Nat.le_of_ble_eq_true rfl), (Nat.le_of_ble_eq_true rfl)⟩ rfl (Nat.le_of_ble_eq_true rfl) dX0_received_1 rfl ⟨(Nat.le_of_ble_eq_true rfl), (Nat.le_of_ble_eq_true rfl)⟩) 4 rfl 0 (Nat.le_of_ble_eq_true rfl) ?_
  refine g_if_eq hC dX0_received_4 25 rfl 7 rfl (fun c_1 => ?_) (fun c_1 => ?_)
  · replace c_1 := bId_0 c_1
    exact absurd (nk_in hk) c_1
  · replace c_1 := bId_1 c_1
    obtain ⟨bn_z2, bd_z2, bh_z2, nd_z2, tn_z2, pl_z2, ol_z2, rv_z2, A_z2, x_z2, b0_z2, b1_z2, hA_z2, hN_z2, hR_z2, ht_z2, hl_z2, hp_z2, hW_z2⟩ := busR.nd hP_0 hta (show k < 4 by omega)
    obtain ⟨sa_z3, wa_z3, rc_z3, an_z3, er_z3, rq_z3, rh_z3, hO_z3, hD_z3, hA_z3, hE_z3, hf_z3, hr8_z3, hr6_z3⟩ := isNd.oc hN_z2
    refine g_aload_n hC dX0_received_7 0 rfl gRef_r 8 rfl ?_
    refine g_get (v := .ref of) hC cI0 hM_0 0 (Nat.le_of_ble_eq_true rfl) q517 rfl dX0_received_8 11 rfl ?_
    refine g_getN (v := .ref bn_z2) hC cI1 b0_z2 0 (Nat.le_of_ble_eq_true rfl) q470 rfl dX0_received_11 14 rfl ?_
    refine g_iload_n hC dX0_received_14 1 rfl 15 rfl ?_
    refine g_aldq (r := some nd_z2) hC b1_z2 4 rfl (vp_in_nI (by omega) (by omega)) ((congrArg A_z2 (nI_clamp (by omega))).trans hA_z2) dX0_received_15 16 rfl ?_
    refine g_getN (v := .ref rc_z3) hC cI2 hO_z3 13 (Nat.le_of_ble_eq_true rfl) q398 rfl dX0_received_16 19 rfl ?_
    refine g_calliP (g_V (As := []) (rest := []) hC mvJ7_size q2393 (gOf.of hC.K cI22 hD_z3) (met_DQ_size l G M rc_z3 rq_z3 (ta, 16 * k + 4) (ta, 16 * k + 5) rh_z3 x_z2.R hr8_z3 hr6_z3 hD_z3 hA_z3) ⟨rfl, rfl⟩ ⟨(Nat.le_of_ble_eq_true rfl), (Nat.le_of_ble_eq_true rfl)⟩ rfl (Nat.le_of_ble_eq_true rfl) dX0_received_19 rfl ⟨(Nat.le_of_ble_eq_true rfl), (Nat.le_of_ble_eq_true rfl)⟩) 22 rfl 0 (Nat.le_of_ble_eq_true rfl) ?_
    refine g_goto hC dX0_received_22 26 rfl ?_
    exact g_iret (v := nI x_z2.R.length) hC (fun k9 hk9 => ⟨(relN.rl hR_z2), rfl, Nat.le_zero.mp hk9⟩) dX0_received_26 (Nat.le_of_ble_eq_true rfl) (Nat.le_of_ble_eq_true rfl)
set_option maxHeartbeats 4000000 in
theorem met_X_errors (l : Launch) (G : gG) (M : gM) (xa : Nat) (sv : Nat) (ms : Nat) (tx : Nat) (le : Int32) (ta : Nat) (of : Nat) (f : Nat → Int32) (q : Nat) (k : Nat) (kd : Nat) (hta : 2 ≤ ta ∧ ta < 9) (hk : k < 4) (hkd : 1 ≤ kd ∧ kd ≤ 5) (hM_0 : M xa = some ((8, 0), .inr (0, [.ref of, .ref sv, .ref ms, .ref tx, .int le]))) (hP_0 : busR M G ta of f q) : Met l yX0_errors (ws_ yX0_errors cX0_errors 3 (some .int)) ({ frames := 2, cells := 0, slots := 0, locals := 45 }) (gPc G [.ref xa, .int (nI k), .int (nI kd)] M) (gQi G (fun r9 M9 k9 => r9 = (f (256 * k + kd + 5)) ∧ M9 = M ∧ k9 = 0)) 0 0 (gA G) := by
  refine gMet [(0, .ref xa), (1, .int (nI k)), (2, .int (nI kd))] (by decide) (Nat.le_of_ble_eq_true rfl) rfl ?_
  intro p e s m below meth c hC
  refine g_iload_n hC dX0_errors_0 1 rfl 1 rfl ?_
  refine g_calliP (g_S (As := [.int (nI k)]) (rest := []) hC msX0_isNode q550 (met_X_isNode l G M (nI k)) ⟨rfl, rfl⟩ ⟨(Nat.le_of_ble_eq_true rfl), (Nat.le_of_ble_eq_true rfl)⟩ rfl (Nat.le_of_ble_eq_true rfl) dX0_errors_1 rfl ⟨(Nat.le_of_ble_eq_true rfl), (Nat.le_of_ble_eq_true rfl)⟩) 4 rfl 0 (Nat.le_of_ble_eq_true rfl) ?_
  refine g_if_ne hC dX0_errors_4 9 rfl 7 rfl (fun c_1 => ?_) (fun c_1 => ?_)
  · replace c_1 := bId_1 c_1
    refine g_iload_n hC dX0_errors_9 2 rfl 10 rfl ?_
    refine g_i2l hC dX0_errors_10 11 rfl ?_
    refine g_lconst (v := 1) hC dX0_errors_11 (by decide) 12 rfl ?_
    refine g_ldc2 hC q2351 dX0_errors_12 15 rfl ?_
    refine g_calliP (g_S (As := [.long (Int32.toInt64 (nI kd)), .long 1, .long 5]) (rest := []) hC msX0_isIn q541 (met_isIn l G M (Int32.toInt64 (nI kd)) 1 5) ⟨rfl, rfl⟩ ⟨(Nat.le_of_ble_eq_true rfl), (Nat.le_of_ble_eq_true rfl)⟩ rfl (Nat.le_of_ble_eq_true rfl) dX0_errors_15 rfl ⟨(Nat.le_of_ble_eq_true rfl), (Nat.le_of_ble_eq_true rfl)⟩) 18 rfl 0 (Nat.le_of_ble_eq_true rfl) ?_
    refine g_topi (y := bI (decide (1 ≤ nI kd ∧ nI kd ≤ 5))) (isIn_c 1 5 (by decide) (by decide)) ?_
    refine g_if_eq hC dX0_errors_18 38 rfl 21 rfl (fun c_2 => ?_) (fun c_2 => ?_)
    · replace c_2 := bId_0 c_2
      exact absurd (show 1 ≤ nI kd ∧ nI kd ≤ 5 from ⟨nI_le (a := 1) hkd.1 (by omega), nI_le (b := 5) hkd.2 (by omega)⟩) c_2
    · replace c_2 := bId_1 c_2
      obtain ⟨bn_z3, bd_z3, bh_z3, nd_z3, tn_z3, pl_z3, ol_z3, rv_z3, A_z3, x_z3, b0_z3, b1_z3, hA_z3, hN_z3, hR_z3, ht_z3, hl_z3, hp_z3, hW_z3⟩ := busR.nd hP_0 hta (show k < 4 by omega)
      obtain ⟨sa_z4, wa_z4, rc_z4, an_z4, er_z4, rq_z4, rh_z4, hO_z4, hD_z4, hA_z4, hE_z4, hf_z4, hr8_z4, hr6_z4⟩ := isNd.oc hN_z3
      refine g_aload_n hC dX0_errors_21 0 rfl gRef_r 22 rfl ?_
      refine g_get (v := .ref of) hC cI0 hM_0 0 (Nat.le_of_ble_eq_true rfl) q517 rfl dX0_errors_22 25 rfl ?_
      refine g_getN (v := .ref bn_z3) hC cI1 b0_z3 0 (Nat.le_of_ble_eq_true rfl) q470 rfl dX0_errors_25 28 rfl ?_
      refine g_iload_n hC dX0_errors_28 1 rfl 29 rfl ?_
      refine g_aldq (r := some nd_z3) hC b1_z3 4 rfl (vp_in_nI (by omega) (by omega)) ((congrArg A_z3 (nI_clamp (by omega))).trans hA_z3) dX0_errors_29 30 rfl ?_
      refine g_getN (v := .ref er_z4) hC cI2 hO_z4 18 (Nat.le_of_ble_eq_true rfl) q407 rfl dX0_errors_30 33 rfl ?_
      refine g_iload_n hC dX0_errors_33 2 rfl 34 rfl ?_
      refine g_iald (v := x_z3.e kd) hC hE_z4 0 rfl (vp_in_nI (by omega) (by omega)) ((congrArg x_z3.e (nI_clamp (by omega))).trans rfl) dX0_errors_34 35 rfl ?_
      refine g_goto hC dX0_errors_35 40 rfl ?_
      exact g_iret (v := x_z3.e kd) hC (fun k9 hk9 => ⟨(relN.er hR_z3 hkd.1 hkd.2), rfl, Nat.le_zero.mp hk9⟩) dX0_errors_40 (Nat.le_of_ble_eq_true rfl) (Nat.le_of_ble_eq_true rfl)
  · replace c_1 := bId_0 c_1
    exact absurd (nk_in hk) c_1
set_option maxHeartbeats 4000000 in
theorem met_X_errors_x (l : Launch) (G : gG) (M : gM) (xa : Nat) (sv : Nat) (ms : Nat) (tx : Nat) (le : Int32) (ta : Nat) (of : Nat) (f : Nat → Int32) (q : Nat) (x : Int32) (y : Int32) (hx : ¬ (0 ≤ x ∧ x ≤ 3)) (hM_0 : M xa = some ((8, 0), .inr (0, [.ref of, .ref sv, .ref ms, .ref tx, .int le]))) : Met l yX0_errors (ws_ yX0_errors cX0_errors 3 (some .int)) ({ frames := 2, cells := 0, slots := 0, locals := 45 }) (gPc G [.ref xa, .int x, .int y] M) (gQi G (fun r9 M9 k9 => r9 = (-1) ∧ M9 = M ∧ k9 = 0)) 0 0 (gA G) := by
  refine gMet [(0, .ref xa), (1, .int x), (2, .int y)] (by decide) (Nat.le_of_ble_eq_true rfl) rfl ?_
  intro p e s m below meth c hC
  refine g_iload_n hC dX0_errors_0 1 rfl 1 rfl ?_
  refine g_calliP (g_S (As := [.int x]) (rest := []) hC msX0_isNode q550 (met_X_isNode l G M x) ⟨rfl, rfl⟩ ⟨(Nat.le_of_ble_eq_true rfl), (Nat.le_of_ble_eq_true rfl)⟩ rfl (Nat.le_of_ble_eq_true rfl) dX0_errors_1 rfl ⟨(Nat.le_of_ble_eq_true rfl), (Nat.le_of_ble_eq_true rfl)⟩) 4 rfl 0 (Nat.le_of_ble_eq_true rfl) ?_
  refine g_if_ne hC dX0_errors_4 9 rfl 7 rfl (fun c_1 => ?_) (fun c_1 => ?_)
  · replace c_1 := bId_1 c_1
    exact absurd c_1 hx
  · replace c_1 := bId_0 c_1
    refine g_iconst hC dX0_errors_7 ki_m1 8 rfl ?_
    exact g_iret (v := -1) hC (fun k9 hk9 => ⟨rfl, rfl, Nat.le_zero.mp hk9⟩) dX0_errors_8 (Nat.le_of_ble_eq_true rfl) (Nat.le_of_ble_eq_true rfl)
set_option maxHeartbeats 4000000 in
theorem met_X_errors_y (l : Launch) (G : gG) (M : gM) (xa : Nat) (sv : Nat) (ms : Nat) (tx : Nat) (le : Int32) (ta : Nat) (of : Nat) (f : Nat → Int32) (q : Nat) (k : Nat) (y : Int32) (hk : k < 4) (hy : ¬ (1 ≤ y ∧ y ≤ 5)) (hM_0 : M xa = some ((8, 0), .inr (0, [.ref of, .ref sv, .ref ms, .ref tx, .int le]))) : Met l yX0_errors (ws_ yX0_errors cX0_errors 3 (some .int)) ({ frames := 2, cells := 0, slots := 0, locals := 45 }) (gPc G [.ref xa, .int (nI k), .int y] M) (gQi G (fun r9 M9 k9 => r9 = (-2) ∧ M9 = M ∧ k9 = 0)) 0 0 (gA G) := by
  refine gMet [(0, .ref xa), (1, .int (nI k)), (2, .int y)] (by decide) (Nat.le_of_ble_eq_true rfl) rfl ?_
  intro p e s m below meth c hC
  refine g_iload_n hC dX0_errors_0 1 rfl 1 rfl ?_
  refine g_calliP (g_S (As := [.int (nI k)]) (rest := []) hC msX0_isNode q550 (met_X_isNode l G M (nI k)) ⟨rfl, rfl⟩ ⟨(Nat.le_of_ble_eq_true rfl), (Nat.le_of_ble_eq_true rfl)⟩ rfl (Nat.le_of_ble_eq_true rfl) dX0_errors_1 rfl ⟨(Nat.le_of_ble_eq_true rfl), (Nat.le_of_ble_eq_true rfl)⟩) 4 rfl 0 (Nat.le_of_ble_eq_true rfl) ?_
  refine g_if_ne hC dX0_errors_4 9 rfl 7 rfl (fun c_1 => ?_) (fun c_1 => ?_)
  · replace c_1 := bId_1 c_1
    refine g_iload_n hC dX0_errors_9 2 rfl 10 rfl ?_
    refine g_i2l hC dX0_errors_10 11 rfl ?_
    refine g_lconst (v := 1) hC dX0_errors_11 (by decide) 12 rfl ?_
    refine g_ldc2 hC q2351 dX0_errors_12 15 rfl ?_
    refine g_calliP (g_S (As := [.long (Int32.toInt64 y), .long 1, .long 5]) (rest := []) hC msX0_isIn q541 (met_isIn l G M (Int32.toInt64 y) 1 5) ⟨rfl, rfl⟩ ⟨(Nat.le_of_ble_eq_true rfl), (Nat.le_of_ble_eq_true rfl)⟩ rfl (Nat.le_of_ble_eq_true rfl) dX0_errors_15 rfl ⟨(Nat.le_of_ble_eq_true rfl), (Nat.le_of_ble_eq_true rfl)⟩) 18 rfl 0 (Nat.le_of_ble_eq_true rfl) ?_
    refine g_topi (y := bI (decide (1 ≤ y ∧ y ≤ 5))) (isIn_c 1 5 (by decide) (by decide)) ?_
    refine g_if_eq hC dX0_errors_18 38 rfl 21 rfl (fun c_2 => ?_) (fun c_2 => ?_)
    · replace c_2 := bId_0 c_2
      refine g_bipush hC dX0_errors_38 kb_m2 40 rfl ?_
      exact g_iret (v := -2) hC (fun k9 hk9 => ⟨rfl, rfl, Nat.le_zero.mp hk9⟩) dX0_errors_40 (Nat.le_of_ble_eq_true rfl) (Nat.le_of_ble_eq_true rfl)
    · replace c_2 := bId_1 c_2
      exact absurd c_2 hy
  · replace c_1 := bId_0 c_1
    exact absurd (nk_in hk) c_1
set_option maxHeartbeats 4000000 in
theorem met_X_isPassive_n (l : Launch) (G : gG) (M : gM) (xa : Nat) (sv : Nat) (ms : Nat) (tx : Nat) (le : Int32) (ta : Nat) (of : Nat) (f : Nat → Int32) (q : Nat) (x : Int32) (hx : ¬ (0 ≤ x ∧ x ≤ 3)) (hM_0 : M xa = some ((8, 0), .inr (0, [.ref of, .ref sv, .ref ms, .ref tx, .int le]))) : Met l yX0_isPassive (ws_ yX0_isPassive cX0_isPassive 2 (some .int)) ({ frames := 2, cells := 0, slots := 0, locals := 45 }) (gPc G [.ref xa, .int x] M) (gQi G (fun r9 M9 k9 => r9 = (-1) ∧ M9 = M ∧ k9 = 0)) 0 0 (gA G) := by
  refine gMet [(0, .ref xa), (1, .int x)] (by decide) (Nat.le_of_ble_eq_true rfl) rfl ?_
  intro p e s m below meth c hC
  refine g_iload_n hC dX0_isPassive_0 1 rfl 1 rfl ?_
  refine g_calliP (g_S (As := [.int x]) (rest := []) hC msX0_isNode q550 (met_X_isNode l G M x) ⟨rfl, rfl⟩ ⟨(Nat.le_of_ble_eq_true rfl), (Nat.le_of_ble_eq_true rfl)⟩ rfl (Nat.le_of_ble_eq_true rfl) dX0_isPassive_1 rfl ⟨(Nat.le_of_ble_eq_true rfl), (Nat.le_of_ble_eq_true rfl)⟩) 4 rfl 0 (Nat.le_of_ble_eq_true rfl) ?_
  refine g_if_eq hC dX0_isPassive_4 25 rfl 7 rfl (fun c_1 => ?_) (fun c_1 => ?_)
  · replace c_1 := bId_0 c_1
    refine g_iconst hC dX0_isPassive_25 ki_m1 26 rfl ?_
    exact g_iret (v := -1) hC (fun k9 hk9 => ⟨rfl, rfl, Nat.le_zero.mp hk9⟩) dX0_isPassive_26 (Nat.le_of_ble_eq_true rfl) (Nat.le_of_ble_eq_true rfl)
  · replace c_1 := bId_1 c_1
    exact absurd c_1 hx
set_option maxHeartbeats 4000000 in
theorem met_X_isPassive (l : Launch) (G : gG) (M : gM) (xa : Nat) (sv : Nat) (ms : Nat) (tx : Nat) (le : Int32) (ta : Nat) (of : Nat) (f : Nat → Int32) (q : Nat) (k : Nat) (hta : 2 ≤ ta ∧ ta < 9) (hk : k < 4) (hM_0 : M xa = some ((8, 0), .inr (0, [.ref of, .ref sv, .ref ms, .ref tx, .int le]))) (hP_0 : busR M G ta of f q) : Met l yX0_isPassive (ws_ yX0_isPassive cX0_isPassive 2 (some .int)) ({ frames := 2, cells := 0, slots := 0, locals := 45 }) (gPc G [.ref xa, .int (nI k)] M) (gQi G (fun r9 M9 k9 => r9 = (bI (decide (f 1025 ≤ f (256 * k + 4) ∨ f 1025 ≤ f (256 * k + 5)))) ∧ M9 = M ∧ k9 = 0)) 0 0 (gA G) := by
  refine gMet [(0, .ref xa), (1, .int (nI k))] (by decide) (Nat.le_of_ble_eq_true rfl) rfl ?_
  intro p e s m below meth c hC
  refine g_iload_n hC dX0_isPassive_0 1 rfl 1 rfl ?_
  refine g_calliP (g_S (As := [.int (nI k)]) (rest := []) hC msX0_isNode q550 (met_X_isNode l G M (nI k)) ⟨rfl, rfl⟩ ⟨(Nat.le_of_ble_eq_true rfl), (Nat.le_of_ble_eq_true rfl)⟩ rfl (Nat.le_of_ble_eq_true rfl) dX0_isPassive_1 rfl ⟨(Nat.le_of_ble_eq_true rfl), (Nat.le_of_ble_eq_true rfl)⟩) 4 rfl 0 (Nat.le_of_ble_eq_true rfl) ?_
  refine g_if_eq hC dX0_isPassive_4 25 rfl 7 rfl (fun c_1 => ?_) (fun c_1 => ?_)
  · replace c_1 := bId_0 c_1
    exact absurd (nk_in hk) c_1
  · replace c_1 := bId_1 c_1
    obtain ⟨bn_z2, bd_z2, bh_z2, nd_z2, tn_z2, pl_z2, ol_z2, rv_z2, A_z2, x_z2, b0_z2, b1_z2, hA_z2, hN_z2, hR_z2, ht_z2, hl_z2, hp_z2, hW_z2⟩ := busR.nd hP_0 hta (show k < 4 by omega)
    obtain ⟨sa_z3, wa_z3, rc_z3, an_z3, er_z3, hO_z3⟩ := isNd.cell hN_z2
    have hph9 := (relN.ph hR_z2).2
    refine g_aload_n hC dX0_isPassive_7 0 rfl gRef_r 8 rfl ?_
    refine g_get (v := .ref of) hC cI0 hM_0 0 (Nat.le_of_ble_eq_true rfl) q517 rfl dX0_isPassive_8 11 rfl ?_
    refine g_getN (v := .ref bn_z2) hC cI1 b0_z2 0 (Nat.le_of_ble_eq_true rfl) q470 rfl dX0_isPassive_11 14 rfl ?_
    refine g_iload_n hC dX0_isPassive_14 1 rfl 15 rfl ?_
    refine g_aldq (r := some nd_z2) hC b1_z2 4 rfl (vp_in_nI (by omega) (by omega)) ((congrArg A_z2 (nI_clamp (by omega))).trans hA_z2) dX0_isPassive_15 16 rfl ?_
    refine g_calliP (g_V (As := []) (rest := []) hC mvX2_isPassive q2346 (gOf.of hC.K cI2 hO_z3) (met_Nd_isPassive l G M nd_z2 (ta, 16 * k) of x_z2.ph x_z2.cu sa_z3 wa_z3 rc_z3 an_z3 er_z3 x_z2.g (ta, 100) bn_z2 bd_z2 bh_z2 (nI tn_z2) pl_z2 ol_z2 rv_z2 hO_z3 b0_z2) ⟨rfl, rfl⟩ ⟨(Nat.le_of_ble_eq_true rfl), (Nat.le_of_ble_eq_true rfl)⟩ rfl (Nat.le_of_ble_eq_true rfl) dX0_isPassive_16 rfl ⟨(Nat.le_of_ble_eq_true rfl), (Nat.le_of_ble_eq_true rfl)⟩) 19 rfl 0 (Nat.le_of_ble_eq_true rfl) ?_
    refine g_calliP (g_S (As := [.int (bI (cPas x_z2.g pl_z2))]) (rest := []) hC msX0_bit q2331 (met_X_bit l G M (cPas x_z2.g pl_z2)) ⟨rfl, rfl⟩ ⟨(Nat.le_of_ble_eq_true rfl), (Nat.le_of_ble_eq_true rfl)⟩ rfl (Nat.le_of_ble_eq_true rfl) dX0_isPassive_19 rfl ⟨(Nat.le_of_ble_eq_true rfl), (Nat.le_of_ble_eq_true rfl)⟩) 22 rfl 0 (Nat.le_of_ble_eq_true rfl) ?_
    refine g_goto hC dX0_isPassive_22 26 rfl ?_
    exact g_iret (v := bI (cPas x_z2.g pl_z2)) hC (fun k9 hk9 => ⟨(by rw [hl_z2.1, ← relN.g3 hR_z2, ← relN.g4 hR_z2]), rfl, Nat.le_zero.mp hk9⟩) dX0_isPassive_26 (Nat.le_of_ble_eq_true rfl) (Nat.le_of_ble_eq_true rfl)
set_option maxHeartbeats 4000000 in
theorem met_X_winner (l : Launch) (G : gG) (M : gM) (xa : Nat) (sv : Nat) (ms : Nat) (tx : Nat) (le : Int32) (ta : Nat) (of : Nat) (f : Nat → Int32) (q : Nat) (hta : 2 ≤ ta ∧ ta < 9) (hM_0 : M xa = some ((8, 0), .inr (0, [.ref of, .ref sv, .ref ms, .ref tx, .int le]))) (hP_0 : busR M G ta of f q) : Met l yX0_winner (ws_ yX0_winner cX0_winner 1 (some .int)) ({ frames := 2, cells := 0, slots := 0, locals := 44 }) (gPc G [.ref xa] M) (gQi G (fun r9 M9 k9 => r9 = (winI (winT f 4)) ∧ M9 = M ∧ k9 = 0)) 0 0 (gA G) := by
  refine gMet [(0, .ref xa)] (by decide) (Nat.le_of_ble_eq_true rfl) rfl ?_
  intro p e s m below meth c hC
  refine g_aload_n hC dX0_winner_0 0 rfl gRef_r 1 rfl ?_
  refine g_get (v := .ref of) hC cI0 hM_0 0 (Nat.le_of_ble_eq_true rfl) q517 rfl dX0_winner_1 4 rfl ?_
  refine g_calliP (g_V (As := []) (rest := []) hC mvX1_winner q2455 (busR.cls hC.K hP_0) (met_B_winner l G M ta of f q hta hP_0) ⟨rfl, rfl⟩ ⟨(Nat.le_of_ble_eq_true rfl), (Nat.le_of_ble_eq_true rfl)⟩ rfl (Nat.le_of_ble_eq_true rfl) dX0_winner_4 rfl ⟨(Nat.le_of_ble_eq_true rfl), (Nat.le_of_ble_eq_true rfl)⟩) 7 rfl 0 (Nat.le_of_ble_eq_true rfl) ?_
  exact g_iret (v := winI (winT f 4)) hC (fun k9 hk9 => ⟨rfl, rfl, Nat.le_zero.mp hk9⟩) dX0_winner_7 (Nat.le_of_ble_eq_true rfl) (Nat.le_of_ble_eq_true rfl)
set_option maxHeartbeats 4000000 in
theorem met_X_time (l : Launch) (G : gG) (M : gM) (xa : Nat) (sv : Nat) (ms : Nat) (tx : Nat) (le : Int32) (ta : Nat) (of : Nat) (f : Nat → Int32) (q : Nat) (hta : 2 ≤ ta ∧ ta < 9) (hM_0 : M xa = some ((8, 0), .inr (0, [.ref of, .ref sv, .ref ms, .ref tx, .int le]))) (hP_0 : busR M G ta of f q) : Met l yX0_time (ws_ yX0_time cX0_time 1 (some .int)) ({ frames := 0, cells := 0, slots := 0, locals := 0 }) (gPc G [.ref xa] M) (gQi G (fun r9 M9 k9 => r9 = (f 1024) ∧ M9 = M ∧ k9 = 0)) 0 0 (gA G) := by
  refine gMet [(0, .ref xa)] (by decide) (Nat.le_of_ble_eq_true rfl) rfl ?_
  intro p e s m below meth c hC
  obtain ⟨bn_z1, bd_z1, bh_z1, nd_z1, tn_z1, pl_z1, ol_z1, rv_z1, A_z1, x_z1, b0_z1, b1_z1, hA_z1, hN_z1, hR_z1, ht_z1, hl_z1, hp_z1, hW_z1⟩ := busR.nd hP_0 hta (show 0 < 4 by omega)
  refine g_aload_n hC dX0_time_0 0 rfl gRef_r 1 rfl ?_
  refine g_get (v := .ref of) hC cI0 hM_0 0 (Nat.le_of_ble_eq_true rfl) q517 rfl dX0_time_1 4 rfl ?_
  refine g_getN (v := .int (nI tn_z1)) hC cI1 b0_z1 3 (Nat.le_of_ble_eq_true rfl) q476 rfl dX0_time_4 7 rfl ?_
  exact g_iret (v := nI tn_z1) hC (fun k9 hk9 => ⟨(ht_z1.1.symm), rfl, Nat.le_zero.mp hk9⟩) dX0_time_7 (Nat.le_of_ble_eq_true rfl) (Nat.le_of_ble_eq_true rfl)
