/-! the public methods: run, settle, level, setLimits, setFilter -/
set_option maxRecDepth 100000
set_option maxHeartbeats 4000000 in
theorem met_X_run_n (l : Launch) (G : gG) (M : gM) (xa : Nat) (sv : Nat) (ms : Nat) (tx : Nat) (le : Int32) (ta : Nat) (of : Nat) (f : Nat → Int32) (q : Nat) (x : Int32) (hx : ¬ (1 ≤ x ∧ x ≤ 200)) (hM_0 : M xa = some ((8, 0), .inr (0, [.ref of, .ref sv, .ref ms, .ref tx, .int le]))) : Met l yX0_run (ws_ yX0_run cX0_run 2 (some .int)) ({ frames := 1, cells := 0, slots := 0, locals := 25 }) (gPc G [.ref xa, .int x] M) (gQi G (fun r9 M9 k9 => r9 = (-2) ∧ M9 = M ∧ k9 = 0)) 0 0 (gA G) := by
  refine gMet [(0, .ref xa), (1, .int x)] (by decide) (Nat.le_of_ble_eq_true rfl) rfl ?_
  intro p e s m below meth c hC
  refine g_iload_n hC dX0_run_0 1 rfl 1 rfl ?_
  refine g_i2l hC dX0_run_1 2 rfl ?_
  refine g_lconst (v := 1) hC dX0_run_2 (by decide) 3 rfl ?_
  refine g_ldc2 hC q1756 dX0_run_3 6 rfl ?_
  refine g_calliP (g_S (As := [.long (Int32.toInt64 x), .long 1, .long 200]) (rest := []) hC msX0_isIn q541 (met_isIn l G M (Int32.toInt64 x) 1 200) ⟨rfl, rfl⟩ ⟨(Nat.le_of_ble_eq_true rfl), (Nat.le_of_ble_eq_true rfl)⟩ rfl (Nat.le_of_ble_eq_true rfl) dX0_run_6 rfl ⟨(Nat.le_of_ble_eq_true rfl), (Nat.le_of_ble_eq_true rfl)⟩) 9 rfl 0 (Nat.le_of_ble_eq_true rfl) ?_
  refine g_topi (y := bI (decide (1 ≤ x ∧ x ≤ 200))) (isIn_c 1 200 (by decide) (by decide)) ?_
  refine g_if_eq hC dX0_run_9 23 rfl 12 rfl (fun c_1 => ?_) (fun c_1 => ?_)
  · replace c_1 := bId_0 c_1
    refine g_bipush hC dX0_run_23 kb_m2 25 rfl ?_
    exact g_iret (v := -2) hC (fun k9 hk9 => ⟨rfl, rfl, Nat.le_zero.mp hk9⟩) dX0_run_25 (Nat.le_of_ble_eq_true rfl) (Nat.le_of_ble_eq_true rfl)
  · replace c_1 := bId_1 c_1
    exact absurd c_1 hx
set_option maxHeartbeats 4000000 in
theorem met_X_run (l : Launch) (G : gG) (M : gM) (xa : Nat) (sv : Nat) (ms : Nat) (tx : Nat) (le : Int32) (ta : Nat) (of : Nat) (f : Nat → Int32) (q : Nat) (n : Nat) (hta : 2 ≤ ta ∧ ta < 9) (hq : q < 800000) (hn1 : 1 ≤ n) (hn2 : n ≤ 200) (hM_0 : M xa = some ((8, 0), .inr (0, [.ref of, .ref sv, .ref ms, .ref tx, .int le]))) (hP_0 : busR M G ta of f q) : Met l yX0_run (ws_ yX0_run cX0_run 2 (some .int)) ({ frames := 13, cells := 1820, slots := 12200, locals := 323 }) (gPc G [.ref xa, .int (nI n)] M) (gQi G (fun r9 M9 k9 => r9 = ((((T_bits f n 14 + T_bits f n 270) + T_bits f n 526) + T_bits f n 782) - (((f 14 + f 270) + f 526) + f 782)) ∧ busR M9 G ta of (T_bits f n) (q + n) ∧ gFr (gT (fun t => t.1 = ta ∨ t.1 = 9)) M M9 ∧ k9 ≤ 1820)) 1820 12200 (gA G) := by
  refine gMet [(0, .ref xa), (1, .int (nI n))] (by decide) (Nat.le_of_ble_eq_true rfl) rfl ?_
  intro p e s m below meth c hC
  refine g_iload_n hC dX0_run_0 1 rfl 1 rfl ?_
  refine g_i2l hC dX0_run_1 2 rfl ?_
  refine g_lconst (v := 1) hC dX0_run_2 (by decide) 3 rfl ?_
  refine g_ldc2 hC q1756 dX0_run_3 6 rfl ?_
  refine g_calliP (g_S (As := [.long (Int32.toInt64 (nI n)), .long 1, .long 200]) (rest := []) hC msX0_isIn q541 (met_isIn l G M (Int32.toInt64 (nI n)) 1 200) ⟨rfl, rfl⟩ ⟨(Nat.le_of_ble_eq_true rfl), (Nat.le_of_ble_eq_true rfl)⟩ rfl (Nat.le_of_ble_eq_true rfl) dX0_run_6 rfl ⟨(Nat.le_of_ble_eq_true rfl), (Nat.le_of_ble_eq_true rfl)⟩) 9 rfl 0 (Nat.le_of_ble_eq_true rfl) ?_
  refine g_topi (y := bI (decide (1 ≤ nI n ∧ nI n ≤ 200))) (isIn_c 1 200 (by decide) (by decide)) ?_
  refine g_if_eq hC dX0_run_9 23 rfl 12 rfl (fun c_1 => ?_) (fun c_1 => ?_)
  · replace c_1 := bId_0 c_1
    exact absurd (show 1 ≤ nI n ∧ nI n ≤ 200 from ⟨nI_le (a := 1) hn1 (by omega), nI_le (b := 200) hn2 (by omega)⟩) c_1
  · replace c_1 := bId_1 c_1
    refine g_aload_n hC dX0_run_12 0 rfl gRef_r 13 rfl ?_
    refine g_get (v := .ref of) hC cI0 hM_0 0 (Nat.le_of_ble_eq_true rfl) q517 rfl dX0_run_13 16 rfl ?_
    refine g_iload_n hC dX0_run_16 1 rfl 17 rfl ?_
    refine g_calli (g_V (As := [.int (nI n)]) (rest := []) hC mvX1_run q1806 (busR.cls hC.K hP_0) (met_B_run l G M ta of f q n hta hq hn1 hn2 hP_0) ⟨rfl, rfl⟩ ⟨(Nat.le_of_ble_eq_true rfl), (Nat.le_of_ble_eq_true rfl)⟩ rfl (Nat.le_of_ble_eq_true rfl) dX0_run_17 rfl ⟨(Nat.le_of_ble_eq_true rfl), (Nat.le_of_ble_eq_true rfl)⟩) 1820 (Nat.le_of_ble_eq_true rfl) 12200 (Nat.le_of_ble_eq_true rfl) 20 rfl (fun r5 M2 k3 hp4 => ?_)
    obtain ⟨rfl, hpd6, hF7, hk8⟩ := hp4
    refine g_goto hC dX0_run_20 25 rfl ?_
    exact g_iret (v := (((T_bits f n 14 + T_bits f n 270) + T_bits f n 526) + T_bits f n 782) - (((f 14 + f 270) + f 526) + f 782)) hC (fun k9 hk9 => ⟨rfl, hpd6, (gFr.refl.trans (hF7.mono (fun b t h => by obtain ⟨u9, v9⟩ := t; revert h; (try simp only [ndT, tgE, gT, tgR, ndT9, ndW, tg0, Prod.mk.injEq, true_and, and_true, cpyT]); first | done | omega | (simp; done) | (intro h; simp_all; done)))), (by first | exact Nat.le_zero.mp hk9 | omega)⟩) dX0_run_25 (Nat.le_of_ble_eq_true rfl) (Nat.le_of_ble_eq_true rfl)
set_option maxHeartbeats 4000000 in
theorem met_X_settle (l : Launch) (G : gG) (M : gM) (xa : Nat) (sv : Nat) (ms : Nat) (tx : Nat) (le : Int32) (ta : Nat) (of : Nat) (f : Nat → Int32) (q : Nat) (hta : 2 ≤ ta ∧ ta < 9) (hq : q < 800000) (hM_0 : M xa = some ((8, 0), .inr (0, [.ref of, .ref sv, .ref ms, .ref tx, .int le]))) (hP_0 : busR M G ta of f q) : Met l yX0_settle (ws_ yX0_settle cX0_settle 1 (some .int)) ({ frames := 13, cells := 9020, slots := 61000, locals := 321 }) (gPc G [.ref xa] M) (gQi G (fun r9 M9 k9 => r9 = (if stT (stlT 1000 0 f).1 4 = true then nI (stlT 1000 0 f).2 else -5) ∧ busR M9 G ta of ((stlT 1000 0 f).1) (q + 1000) ∧ gFr (gT (fun t => t.1 = ta ∨ t.1 = 9)) M M9 ∧ k9 ≤ 9020)) 9020 61000 (gA G) := by
  refine gMet [(0, .ref xa)] (by decide) (Nat.le_of_ble_eq_true rfl) rfl ?_
  intro p e s m below meth c hC
  refine g_aload_n hC dX0_settle_0 0 rfl gRef_r 1 rfl ?_
  refine g_get (v := .ref of) hC cI0 hM_0 0 (Nat.le_of_ble_eq_true rfl) q517 rfl dX0_settle_1 4 rfl ?_
  refine g_calli (g_V (As := []) (rest := []) hC mvX1_settle q2286 (busR.cls hC.K hP_0) (met_B_settle l G M ta of f q hta hq hP_0) ⟨rfl, rfl⟩ ⟨(Nat.le_of_ble_eq_true rfl), (Nat.le_of_ble_eq_true rfl)⟩ rfl (Nat.le_of_ble_eq_true rfl) dX0_settle_4 rfl ⟨(Nat.le_of_ble_eq_true rfl), (Nat.le_of_ble_eq_true rfl)⟩) 9020 (Nat.le_of_ble_eq_true rfl) 61000 (Nat.le_of_ble_eq_true rfl) 7 rfl (fun r4 M1 k2 hp3 => ?_)
  obtain ⟨rfl, hpd5, hF6, hk7⟩ := hp3
  exact g_iret (v := if stT (stlT 1000 0 f).1 4 = true then nI (stlT 1000 0 f).2 else -5) hC (fun k9 hk9 => ⟨rfl, hpd5, (gFr.refl.trans (hF6.mono (fun b t h => by obtain ⟨u9, v9⟩ := t; revert h; (try simp only [ndT, tgE, gT, tgR, ndT9, ndW, tg0, Prod.mk.injEq, true_and, and_true, cpyT]); first | done | omega | (simp; done) | (intro h; simp_all; done)))), (by first | exact Nat.le_zero.mp hk9 | omega)⟩) dX0_settle_7 (Nat.le_of_ble_eq_true rfl) (Nat.le_of_ble_eq_true rfl)
theorem busR.hist {M : gM} {G : gG} {ta of q : Nat} {f : Nat → Int32} (h : busR M G ta of f q) : ∃ (bn bd bh tn : Nat) (pl ol rv : Int32) (hs : Nat → Int32), M of = some ((ta, 100), .inr (1, [.ref bn, .ref bd, .ref bh, .int (nI tn), .int pl, .int ol, .int rv])) ∧ M bh = some ((ta, 104), .inl (gcs G 1, 256, .inl hs)) ∧ f 1024 = nI tn ∧ tn ≤ q ∧ (f 1025 = pl ∧ f 1026 = ol ∧ f 1027 = rv) ∧ ∀ i, i < 256 → hs i = f (i + 1050) := by
  obtain ⟨x0, x1, x2, x3, D, hs, tn, pl, ol, rv, ⟨bn, bd, bh, n0, n1, n2, n3, mc, b0, b1, b2, b3, l1, l2, z0, z1, z2, z3⟩, hR⟩ := h
  exact ⟨bn, bd, bh, tn, pl, ol, rv, hs, b0, b3, hR.2.1.1, hR.2.1.2, hR.2.2.1, fun i hi => (hR.2.2.2.2.2 i hi).1.symm⟩
set_option maxHeartbeats 4000000 in
theorem met_X_level_n (l : Launch) (G : gG) (M : gM) (xa : Nat) (sv : Nat) (ms : Nat) (tx : Nat) (le : Int32) (ta : Nat) (of : Nat) (f : Nat → Int32) (q : Nat) (x : Int32) (hx : ¬ (1 ≤ x ∧ x ≤ 256)) (hM_0 : M xa = some ((8, 0), .inr (0, [.ref of, .ref sv, .ref ms, .ref tx, .int le]))) : Met l yX0_level (ws_ yX0_level cX0_level 2 (some .int)) ({ frames := 1, cells := 0, slots := 0, locals := 25 }) (gPc G [.ref xa, .int x] M) (gQi G (fun r9 M9 k9 => r9 = (-2) ∧ M9 = M ∧ k9 = 0)) 0 0 (gA G) := by
  refine gMet [(0, .ref xa), (1, .int x)] (by decide) (Nat.le_of_ble_eq_true rfl) rfl ?_
  intro p e s m below meth c hC
  refine g_iload_n hC dX0_level_0 1 rfl 1 rfl ?_
  refine g_i2l hC dX0_level_1 2 rfl ?_
  refine g_lconst (v := 1) hC dX0_level_2 (by decide) 3 rfl ?_
  refine g_ldc2 hC q545 dX0_level_3 6 rfl ?_
  refine g_calliP (g_S (As := [.long (Int32.toInt64 x), .long 1, .long 256]) (rest := []) hC msX0_isIn q541 (met_isIn l G M (Int32.toInt64 x) 1 256) ⟨rfl, rfl⟩ ⟨(Nat.le_of_ble_eq_true rfl), (Nat.le_of_ble_eq_true rfl)⟩ rfl (Nat.le_of_ble_eq_true rfl) dX0_level_6 rfl ⟨(Nat.le_of_ble_eq_true rfl), (Nat.le_of_ble_eq_true rfl)⟩) 9 rfl 0 (Nat.le_of_ble_eq_true rfl) ?_
  refine g_topi (y := bI (decide (1 ≤ x ∧ x ≤ 256))) (isIn_c 1 256 (by decide) (by decide)) ?_
  refine g_if_ne hC dX0_level_9 15 rfl 12 rfl (fun c_1 => ?_) (fun c_1 => ?_)
  · replace c_1 := bId_1 c_1
    exact absurd c_1 hx
  · replace c_1 := bId_0 c_1
    refine g_bipush hC dX0_level_12 kb_m2 14 rfl ?_
    exact g_iret (v := -2) hC (fun k9 hk9 => ⟨rfl, rfl, Nat.le_zero.mp hk9⟩) dX0_level_14 (Nat.le_of_ble_eq_true rfl) (Nat.le_of_ble_eq_true rfl)
set_option maxHeartbeats 4000000 in
theorem met_X_level (l : Launch) (G : gG) (M : gM) (xa : Nat) (sv : Nat) (ms : Nat) (tx : Nat) (le : Int32) (ta : Nat) (of : Nat) (f : Nat → Int32) (q : Nat) (b : Nat) (tm : Nat) (hta : 2 ≤ ta ∧ ta < 9) (h1 : 1 ≤ b) (h2 : b ≤ 256) (hq : q < 1000000) (htm : f 1024 = nI tm) (htm9 : tm < 1000000) (hM_0 : M xa = some ((8, 0), .inr (0, [.ref of, .ref sv, .ref ms, .ref tx, .int le]))) (hP_0 : busR M G ta of f q) : Met l yX0_level (ws_ yX0_level cX0_level 2 (some .int)) ({ frames := 1, cells := 0, slots := 0, locals := 25 }) (gPc G [.ref xa, .int (nI b)] M) (gQi G (fun r9 M9 k9 => r9 = (T_lev f tm b) ∧ M9 = M ∧ k9 = 0)) 0 0 (gA G) := by
  refine gMet [(0, .ref xa), (1, .int (nI b))] (by decide) (Nat.le_of_ble_eq_true rfl) rfl ?_
  intro p e s m below meth c hC
  refine g_iload_n hC dX0_level_0 1 rfl 1 rfl ?_
  refine g_i2l hC dX0_level_1 2 rfl ?_
  refine g_lconst (v := 1) hC dX0_level_2 (by decide) 3 rfl ?_
  refine g_ldc2 hC q545 dX0_level_3 6 rfl ?_
  refine g_calliP (g_S (As := [.long (Int32.toInt64 (nI b)), .long 1, .long 256]) (rest := []) hC msX0_isIn q541 (met_isIn l G M (Int32.toInt64 (nI b)) 1 256) ⟨rfl, rfl⟩ ⟨(Nat.le_of_ble_eq_true rfl), (Nat.le_of_ble_eq_true rfl)⟩ rfl (Nat.le_of_ble_eq_true rfl) dX0_level_6 rfl ⟨(Nat.le_of_ble_eq_true rfl), (Nat.le_of_ble_eq_true rfl)⟩) 9 rfl 0 (Nat.le_of_ble_eq_true rfl) ?_
  refine g_topi (y := bI (decide (1 ≤ nI b ∧ nI b ≤ 256))) (isIn_c 1 256 (by decide) (by decide)) ?_
  refine g_if_ne hC dX0_level_9 15 rfl 12 rfl (fun c_1 => ?_) (fun c_1 => ?_)
  · replace c_1 := bId_1 c_1
    obtain ⟨bn_z2, bd_z2, bh_z2, tn_z2, pl_z2, ol_z2, rv_z2, hs_z2, b0_z2, b3_z2, ht_z2, hq_z2, hl_z2, hh_z2⟩ := busR.hist hP_0
    have e_z2 : tn_z2 = tm := nn_eq (by omega) (by omega) (ht_z2.symm.trans htm)
    rw [e_z2] at b0_z2
    refine g_iload_n hC dX0_level_15 1 rfl 16 rfl ?_
    refine g_aload_n hC dX0_level_16 0 rfl gRef_r 17 rfl ?_
    refine g_get (v := .ref of) hC cI0 hM_0 0 (Nat.le_of_ble_eq_true rfl) q517 rfl dX0_level_17 20 rfl ?_
    refine g_getN (v := .int (nI tm)) hC cI1 b0_z2 3 (Nat.le_of_ble_eq_true rfl) q476 rfl dX0_level_20 23 rfl ?_
    refine g_icmp_le hC dX0_level_23 31 rfl 26 rfl (fun c_3 => ?_) (fun c_3 => ?_)
    · replace c_3 : b ≤ tm := nn_le (by omega) (by omega) c_3
      obtain ⟨d, ed⟩ : ∃ y, tm = b + y := ⟨tm - b, by omega⟩
      subst ed
      refine g_aload_n hC dX0_level_31 0 rfl gRef_r 32 rfl ?_
      refine g_get (v := .ref of) hC cI0 hM_0 0 (Nat.le_of_ble_eq_true rfl) q517 rfl dX0_level_32 35 rfl ?_
      refine g_getN (v := .ref bh_z2) hC cI1 b0_z2 2 (Nat.le_of_ble_eq_true rfl) q474 rfl dX0_level_35 38 rfl ?_
      refine g_aload_n hC dX0_level_38 0 rfl gRef_r 39 rfl ?_
      refine g_get (v := .ref of) hC cI0 hM_0 0 (Nat.le_of_ble_eq_true rfl) q517 rfl dX0_level_39 42 rfl ?_
      refine g_getN (v := .int (nI (b + d))) hC cI1 b0_z2 3 (Nat.le_of_ble_eq_true rfl) q476 rfl dX0_level_42 45 rfl ?_
      refine g_iload_n hC dX0_level_45 1 rfl 46 rfl ?_
      refine g_isub hC dX0_level_46 47 rfl ?_
      refine g_topi (y := nI d) (nI_s (a := (b + d)) (b := b) (c := d) (by omega)) ?_
      refine g_sipush hC dX0_level_47 ks_256 50 rfl ?_
      refine g_irem hC dX0_level_50 (by decide) 51 rfl ?_
      refine g_topi (y := nI (d % 256)) (pk_rem (a := d) (d := 256) (by omega) (by decide) (by decide)) ?_
      refine g_bald (v := hs_z2 (d % 256)) hC b3_z2 1 rfl (vp_in_nI (by omega) (by omega)) ((congrArg hs_z2 (nI_clamp (by omega))).trans rfl) dX0_level_51 52 rfl ?_
      exact g_iret (v := hs_z2 (d % 256)) hC (fun k9 hk9 => ⟨(by unfold T_lev; rw [if_neg (by omega), show b + d - b = d by omega, hh_z2 _ (by omega)]), rfl, Nat.le_zero.mp hk9⟩) dX0_level_52 (Nat.le_of_ble_eq_true rfl) (Nat.le_of_ble_eq_true rfl)
    · replace c_3 : tm < b := nn_nle (by omega) (by omega) c_3
      refine g_bipush hC dX0_level_26 kb_m5 28 rfl ?_
      refine g_goto hC dX0_level_28 52 rfl ?_
      exact g_iret (v := -5) hC (fun k9 hk9 => ⟨(by unfold T_lev; rw [if_pos c_3]), rfl, Nat.le_zero.mp hk9⟩) dX0_level_52 (Nat.le_of_ble_eq_true rfl) (Nat.le_of_ble_eq_true rfl)
  · replace c_1 := bId_0 c_1
    exact absurd (show 1 ≤ nI b ∧ nI b ≤ 256 from ⟨nI_le (a := 1) h1 (by omega), nI_le (b := 256) h2 (by omega)⟩) c_1
theorem busR.lim {M : gM} {G : gG} {ta of q : Nat} {f : Nat → Int32} (h : busR M G ta of f q) (hta : 2 ≤ ta ∧ ta < 9) : ∃ (bn bd bh tn : Nat) (pl ol rv : Int32), M of = some ((ta, 100), .inr (1, [.ref bn, .ref bd, .ref bh, .int (nI tn), .int pl, .int ol, .int rv])) ∧ (f 1025 = pl ∧ f 1026 = ol ∧ f 1027 = rv) ∧ ∀ (M' : gM) (pa o r : Int32), (8 ≤ pa ∧ pa ≤ 128) → gFr (gT (tgE ta 100)) M M' → M' of = some ((ta, 100), .inr (1, [.ref bn, .ref bd, .ref bh, .int (nI tn), .int pa, .int o, .int r])) → busR M' G ta of (upd (upd (upd f 1025 pa) 1026 o) 1027 r) q := by
  obtain ⟨x0, x1, x2, x3, D, hs, tn, pl, ol, rv, ⟨bn, bd, bh, n0, n1, n2, n3, mc, b0, b1, b2, b3, l1, l2, z0, z1, z2, z3⟩, hR⟩ := h
  obtain ⟨r0, r1, r2, r3⟩ := hR.1
  refine ⟨bn, bd, bh, tn, pl, ol, rv, b0, hR.2.2.1, fun M' pa o r hp hF hof => ?_⟩
  have hc : ∀ c, ¬ (c = 1025 ∨ c = 1026 ∨ c = 1027) → upd (upd (upd f 1025 pa) 1026 o) 1027 r c = f c := fun c hc => by rw [pk_un (by omega), pk_un (by omega), pk_un (by omega)]
  refine ⟨x0, x1, x2, x3, D, hs, tn, pa, o, r, ⟨bn, bd, bh, n0, n1, n2, n3, mc, hof, hF _ _ _ b1 (by simp [gT, tgE]), hF _ _ _ b2 (by simp [gT, tgE]), hF _ _ _ b3 (by simp [gT, tgE]), l1.fr (hF.mono ?_), l2.fr (hF.mono ?_), z0.fr (hF.mono ?_), z1.fr (hF.mono ?_), z2.fr (hF.mono ?_), z3.fr (hF.mono ?_)⟩, ⟨r0.fr (fun c _ => hc _ (by omega)), r1.fr (fun c _ => hc _ (by omega)), r2.fr (fun c _ => hc _ (by omega)), r3.fr (fun c _ => hc _ (by omega))⟩, ?_, ?_, ?_, hR.2.2.2.2.1.fr (fun c h1 h2 => hc c (by omega)), fun i hi => ?_⟩
  any_goals (intro b t q9; obtain ⟨u9, v9⟩ := t; simp only [gT, tgE, tg0, ndT] at q9 ⊢; omega)
  · rw [hc 1024 (by omega)]; exact hR.2.1
  · exact ⟨by rw [pk_un (by omega), pk_un (by omega)]; exact pk_us, by rw [pk_un (by omega)]; exact pk_us, pk_us⟩
  · have h1 : (8 : Int) ≤ pa.toInt := Int32.le_iff_toInt_le.mp hp.1
    have h2 : pa.toInt ≤ 128 := Int32.le_iff_toInt_le.mp hp.2
    refine ⟨pa.toInt.toNat, by omega, by omega, ?_⟩
    rw [← Int32.toInt_inj, nI_toInt (by omega)]
    omega
  · rw [hc (i + 1050) (by omega)]; exact hR.2.2.2.2.2 i hi
set_option maxHeartbeats 4000000 in
theorem met_X_setLimits (l : Launch) (G : gG) (M : gM) (xa : Nat) (sv : Nat) (ms : Nat) (tx : Nat) (le : Int32) (ta : Nat) (of : Nat) (f : Nat → Int32) (q : Nat) (pa : Int32) (o9 : Int32) (rc : Int32) (hta : 2 ≤ ta ∧ ta < 9) (hM_0 : M xa = some ((8, 0), .inr (0, [.ref of, .ref sv, .ref ms, .ref tx, .int le]))) (hP_0 : busR M G ta of f q) : Met l yX0_setLimits (ws_ yX0_setLimits cX0_setLimits 5 (some .int)) ({ frames := 1, cells := 0, slots := 0, locals := 25 }) (gPc G [.ref xa, .int pa, .int o9, .int rc] M) (gQi G (fun r9 M9 k9 => r9 = (if okL pa o9 rc then f 1025 else -2) ∧ busR M9 G ta of (if okL pa o9 rc then upd (upd (upd f 1025 pa) 1026 o9) 1027 rc else f) q ∧ gFr (gT (fun t => t.1 = ta ∨ t.1 = 9)) M M9 ∧ k9 = 0)) 0 0 (gA G) := by
  refine gMet [(0, .ref xa), (1, .int pa), (2, .int o9), (3, .int rc)] (by decide) (Nat.le_of_ble_eq_true rfl) rfl ?_
  intro p e s m below meth c hC
  refine g_iload_n hC dX0_setLimits_0 1 rfl 1 rfl ?_
  refine g_i2l hC dX0_setLimits_1 2 rfl ?_
  refine g_ldc2 hC q539 dX0_setLimits_2 5 rfl ?_
  refine g_ldc2 hC q540 dX0_setLimits_5 8 rfl ?_
  refine g_calliP (g_S (As := [.long (Int32.toInt64 pa), .long 8, .long 128]) (rest := []) hC msX0_isIn q541 (met_isIn l G M (Int32.toInt64 pa) 8 128) ⟨rfl, rfl⟩ ⟨(Nat.le_of_ble_eq_true rfl), (Nat.le_of_ble_eq_true rfl)⟩ rfl (Nat.le_of_ble_eq_true rfl) dX0_setLimits_8 rfl ⟨(Nat.le_of_ble_eq_true rfl), (Nat.le_of_ble_eq_true rfl)⟩) 11 rfl 0 (Nat.le_of_ble_eq_true rfl) ?_
  refine g_topi (y := bI (decide (8 ≤ pa ∧ pa ≤ 128))) (isIn_c 8 128 (by decide) (by decide)) ?_
  refine g_if_eq hC dX0_setLimits_11 45 rfl 14 rfl (fun c_1 => ?_) (fun c_1 => ?_)
  · replace c_1 := bId_0 c_1
    refine g_bipush hC dX0_setLimits_45 kb_m2 47 rfl ?_
    exact g_iret (v := -2) hC (fun k9 hk9 => ⟨(by rw [if_neg (by simp only [okL, eq_false c_1, if_true, if_false, true_and, and_true, false_and, and_false, true_or, or_true, false_or, or_false, not_true_eq_false, not_false_eq_true, reduceIte, decide_true, decide_false, Bool.false_eq_true])]), (by rw [if_neg (by simp only [okL, eq_false c_1, if_true, if_false, true_and, and_true, false_and, and_false, true_or, or_true, false_or, or_false, not_true_eq_false, not_false_eq_true, reduceIte, decide_true, decide_false, Bool.false_eq_true])]; exact hP_0), gFr.refl, (by first | exact Nat.le_zero.mp hk9 | omega)⟩) dX0_setLimits_47 (Nat.le_of_ble_eq_true rfl) (Nat.le_of_ble_eq_true rfl)
  · replace c_1 := bId_1 c_1
    refine g_iload_n hC dX0_setLimits_14 2 rfl 15 rfl ?_
    refine g_i2l hC dX0_setLimits_15 16 rfl ?_
    refine g_ldc2 hC q544 dX0_setLimits_16 19 rfl ?_
    refine g_ldc2 hC q545 dX0_setLimits_19 22 rfl ?_
    refine g_calliP (g_S (As := [.long (Int32.toInt64 o9), .long 16, .long 256]) (rest := []) hC msX0_isIn q541 (met_isIn l G M (Int32.toInt64 o9) 16 256) ⟨rfl, rfl⟩ ⟨(Nat.le_of_ble_eq_true rfl), (Nat.le_of_ble_eq_true rfl)⟩ rfl (Nat.le_of_ble_eq_true rfl) dX0_setLimits_22 rfl ⟨(Nat.le_of_ble_eq_true rfl), (Nat.le_of_ble_eq_true rfl)⟩) 25 rfl 0 (Nat.le_of_ble_eq_true rfl) ?_
    refine g_topi (y := bI (decide (16 ≤ o9 ∧ o9 ≤ 256))) (isIn_c 16 256 (by decide) (by decide)) ?_
    refine g_if_eq hC dX0_setLimits_25 45 rfl 28 rfl (fun c_2 => ?_) (fun c_2 => ?_)
    · replace c_2 := bId_0 c_2
      refine g_bipush hC dX0_setLimits_45 kb_m2 47 rfl ?_
      exact g_iret (v := -2) hC (fun k9 hk9 => ⟨(by rw [if_neg (by simp only [okL, eq_true c_1, eq_false c_2, if_true, if_false, true_and, and_true, false_and, and_false, true_or, or_true, false_or, or_false, not_true_eq_false, not_false_eq_true, reduceIte, decide_true, decide_false, Bool.false_eq_true])]), (by rw [if_neg (by simp only [okL, eq_true c_1, eq_false c_2, if_true, if_false, true_and, and_true, false_and, and_false, true_or, or_true, false_or, or_false, not_true_eq_false, not_false_eq_true, reduceIte, decide_true, decide_false, Bool.false_eq_true])]; exact hP_0), gFr.refl, (by first | exact Nat.le_zero.mp hk9 | omega)⟩) dX0_setLimits_47 (Nat.le_of_ble_eq_true rfl) (Nat.le_of_ble_eq_true rfl)
    · replace c_2 := bId_1 c_2
      refine g_iload_n hC dX0_setLimits_28 2 rfl 29 rfl ?_
      refine g_iload_n hC dX0_setLimits_29 1 rfl 30 rfl ?_
      refine g_icmp_le hC dX0_setLimits_30 45 rfl 33 rfl (fun c_3 => ?_) (fun c_3 => ?_)
      · refine g_bipush hC dX0_setLimits_45 kb_m2 47 rfl ?_
        exact g_iret (v := -2) hC (fun k9 hk9 => ⟨(by rw [if_neg (by simp only [okL, eq_true c_1, eq_true c_2, eq_true c_3, eq_false (Int32.not_lt.mpr c_3), if_true, if_false, true_and, and_true, false_and, and_false, true_or, or_true, false_or, or_false, not_true_eq_false, not_false_eq_true, reduceIte, decide_true, decide_false, Bool.false_eq_true])]), (by rw [if_neg (by simp only [okL, eq_true c_1, eq_true c_2, eq_true c_3, eq_false (Int32.not_lt.mpr c_3), if_true, if_false, true_and, and_true, false_and, and_false, true_or, or_true, false_or, or_false, not_true_eq_false, not_false_eq_true, reduceIte, decide_true, decide_false, Bool.false_eq_true])]; exact hP_0), gFr.refl, (by first | exact Nat.le_zero.mp hk9 | omega)⟩) dX0_setLimits_47 (Nat.le_of_ble_eq_true rfl) (Nat.le_of_ble_eq_true rfl)
      · refine g_iload_n hC dX0_setLimits_33 3 rfl 34 rfl ?_
        refine g_i2l hC dX0_setLimits_34 35 rfl ?_
        refine g_lconst (v := 1) hC dX0_setLimits_35 (by decide) 36 rfl ?_
        refine g_ldc2 hC q544 dX0_setLimits_36 39 rfl ?_
        refine g_calliP (g_S (As := [.long (Int32.toInt64 rc), .long 1, .long 16]) (rest := []) hC msX0_isIn q541 (met_isIn l G M (Int32.toInt64 rc) 1 16) ⟨rfl, rfl⟩ ⟨(Nat.le_of_ble_eq_true rfl), (Nat.le_of_ble_eq_true rfl)⟩ rfl (Nat.le_of_ble_eq_true rfl) dX0_setLimits_39 rfl ⟨(Nat.le_of_ble_eq_true rfl), (Nat.le_of_ble_eq_true rfl)⟩) 42 rfl 0 (Nat.le_of_ble_eq_true rfl) ?_
        refine g_topi (y := bI (decide (1 ≤ rc ∧ rc ≤ 16))) (isIn_c 1 16 (by decide) (by decide)) ?_
        refine g_if_ne hC dX0_setLimits_42 48 rfl 45 rfl (fun c_4 => ?_) (fun c_4 => ?_)
        · replace c_4 := bId_1 c_4
          obtain ⟨bn_z5, bd_z5, bh_z5, tn_z5, pl_z5, ol_z5, rv_z5, b0_z5, hl_z5, hW_z5⟩ := busR.lim hP_0 hta
          refine g_aload_n hC dX0_setLimits_48 0 rfl gRef_r 49 rfl ?_
          refine g_get (v := .ref of) hC cI0 hM_0 0 (Nat.le_of_ble_eq_true rfl) q517 rfl dX0_setLimits_49 52 rfl ?_
          refine g_getN (v := .int pl_z5) hC cI1 b0_z5 4 (Nat.le_of_ble_eq_true rfl) q479 rfl dX0_setLimits_52 55 rfl ?_
          refine g_istore hC dX0_setLimits_55 (Nat.le_of_ble_eq_true rfl) [(4, .int pl_z5), (0, .ref xa), (1, .int pa), (2, .int o9), (3, .int rc)] rfl 57 rfl ?_
          refine g_aload_n hC dX0_setLimits_57 1 rfl gRef_r 58 rfl ?_
          refine g_get (v := .ref of) hC cI0 hM_0 0 (Nat.le_of_ble_eq_true rfl) q517 rfl dX0_setLimits_58 61 rfl ?_
          refine g_iload_n hC dX0_setLimits_61 2 rfl 62 rfl ?_
          refine g_putN hC cI1 b0_z5 4 (Nat.le_of_ble_eq_true rfl) q479 rfl rfl rfl (Nat.le_of_ble_eq_true rfl) dX0_setLimits_62 (fs' := [.ref bn_z5, .ref bd_z5, .ref bh_z5, .int (nI tn_z5), .int pa, .int ol_z5, .int rv_z5]) rfl 65 rfl (fun M6 hU7 => ?_)
          refine g_aload_n hC dX0_setLimits_65 1 rfl gRef_r 66 rfl ?_
          refine g_get (v := .ref of) hC cI0 (hU7.n (gne_c hM_0 b0_z5 (by decide)) hM_0) 0 (Nat.le_of_ble_eq_true rfl) q517 rfl dX0_setLimits_66 69 rfl ?_
          refine g_iload_n hC dX0_setLimits_69 3 rfl 70 rfl ?_
          refine g_putN hC cI1 hU7.1 5 (Nat.le_of_ble_eq_true rfl) q481 rfl rfl rfl (Nat.le_of_ble_eq_true rfl) dX0_setLimits_70 (fs' := [.ref bn_z5, .ref bd_z5, .ref bh_z5, .int (nI tn_z5), .int pa, .int o9, .int rv_z5]) rfl 73 rfl (fun M8 hU9 => ?_)
          refine g_aload_n hC dX0_setLimits_73 1 rfl gRef_r 74 rfl ?_
          refine g_get (v := .ref of) hC cI0 (hU9.n (gne_c (hU7.n (gne_c hM_0 b0_z5 (by decide)) hM_0) hU7.1 (by decide)) (hU7.n (gne_c hM_0 b0_z5 (by decide)) hM_0)) 0 (Nat.le_of_ble_eq_true rfl) q517 rfl dX0_setLimits_74 77 rfl ?_
          refine g_iload_n hC dX0_setLimits_77 4 rfl 78 rfl ?_
          refine g_putN hC cI1 hU9.1 6 (Nat.le_of_ble_eq_true rfl) q485 rfl rfl rfl (Nat.le_of_ble_eq_true rfl) dX0_setLimits_78 (fs' := [.ref bn_z5, .ref bd_z5, .ref bh_z5, .int (nI tn_z5), .int pa, .int o9, .int rc]) rfl 81 rfl (fun M10 hU11 => ?_)
          have hH12 := (hU11.n (gne_c (hU9.n (gne_c (hU7.n (gne_c hM_0 b0_z5 (by decide)) hM_0) hU7.1 (by decide)) (hU7.n (gne_c hM_0 b0_z5 (by decide)) hM_0)) hU9.1 (by decide)) (hU9.n (gne_c (hU7.n (gne_c hM_0 b0_z5 (by decide)) hM_0) hU7.1 (by decide)) (hU7.n (gne_c hM_0 b0_z5 (by decide)) hM_0)))
          refine g_iload hC dX0_setLimits_81 0 rfl 83 rfl ?_
          exact g_iret (v := pl_z5) hC (fun k9 hk9 => ⟨(by rw [if_pos (by simp only [okL, eq_true c_1, eq_true c_2, eq_false c_3, eq_true c_4, eq_true (Int32.not_le.mp c_3), if_true, if_false, true_and, and_true, false_and, and_false, true_or, or_true, false_or, or_false, not_true_eq_false, not_false_eq_true, reduceIte, decide_true, decide_false, Bool.false_eq_true])]; exact hl_z5.1.symm), (by rw [if_pos (by simp only [okL, eq_true c_1, eq_true c_2, eq_false c_3, eq_true c_4, eq_true (Int32.not_le.mp c_3), if_true, if_false, true_and, and_true, false_and, and_false, true_or, or_true, false_or, or_false, not_true_eq_false, not_false_eq_true, reduceIte, decide_true, decide_false, Bool.false_eq_true])]; exact hW_z5 _ _ _ _ c_1 (((gFr.refl.up hU7 b0_z5 (show (tgE ta 100) (ta, 100) by (try simp only [ndT, tgE, gT, tgR, ndT9, ndW, tg0, Prod.mk.injEq, true_and, and_true, cpyT]); first | done | omega | (simp; done))).up hU9 hU7.1 (show (tgE ta 100) (ta, 100) by (try simp only [ndT, tgE, gT, tgR, ndT9, ndW, tg0, Prod.mk.injEq, true_and, and_true, cpyT]); first | done | omega | (simp; done))).up hU11 hU9.1 (show (tgE ta 100) (ta, 100) by (try simp only [ndT, tgE, gT, tgR, ndT9, ndW, tg0, Prod.mk.injEq, true_and, and_true, cpyT]); first | done | omega | (simp; done))) hU11.1), (((gFr.refl.up hU7 b0_z5 (show (fun t => t.1 = ta ∨ t.1 = 9) (ta, 100) by (try simp only [ndT, tgE, gT, tgR, ndT9, ndW, tg0, Prod.mk.injEq, true_and, and_true, cpyT]); first | done | omega | (simp; done))).up hU9 hU7.1 (show (fun t => t.1 = ta ∨ t.1 = 9) (ta, 100) by (try simp only [ndT, tgE, gT, tgR, ndT9, ndW, tg0, Prod.mk.injEq, true_and, and_true, cpyT]); first | done | omega | (simp; done))).up hU11 hU9.1 (show (fun t => t.1 = ta ∨ t.1 = 9) (ta, 100) by (try simp only [ndT, tgE, gT, tgR, ndT9, ndW, tg0, Prod.mk.injEq, true_and, and_true, cpyT]); first | done | omega | (simp; done))), (by first | exact Nat.le_zero.mp hk9 | omega)⟩) dX0_setLimits_83 (Nat.le_of_ble_eq_true rfl) (Nat.le_of_ble_eq_true rfl)
        · replace c_4 := bId_0 c_4
          refine g_bipush hC dX0_setLimits_45 kb_m2 47 rfl ?_
          exact g_iret (v := -2) hC (fun k9 hk9 => ⟨(by rw [if_neg (by simp only [okL, eq_true c_1, eq_true c_2, eq_false c_3, eq_false c_4, eq_true (Int32.not_le.mp c_3), if_true, if_false, true_and, and_true, false_and, and_false, true_or, or_true, false_or, or_false, not_true_eq_false, not_false_eq_true, reduceIte, decide_true, decide_false, Bool.false_eq_true])]), (by rw [if_neg (by simp only [okL, eq_true c_1, eq_true c_2, eq_false c_3, eq_false c_4, eq_true (Int32.not_le.mp c_3), if_true, if_false, true_and, and_true, false_and, and_false, true_or, or_true, false_or, or_false, not_true_eq_false, not_false_eq_true, reduceIte, decide_true, decide_false, Bool.false_eq_true])]; exact hP_0), gFr.refl, (by first | exact Nat.le_zero.mp hk9 | omega)⟩) dX0_setLimits_47 (Nat.le_of_ble_eq_true rfl) (Nat.le_of_ble_eq_true rfl)
theorem relN.filt {f : Nat → Int32} {k q : Nat} {x : NS} {ma co : Int32} (h : relN f k q x) : relN (upd (upd f (256 * k + 16) ma) (256 * k + 17) co) k q (x.ph, x.cu, upd (upd x.g 15 ma) 16 co, x.s, x.e, x.W, x.R, x.C, x.ad) := by
  obtain ⟨V, ⟨⟨c1, c2, c3, c4, c5, c6, c7, c8, c9, c10, c11, c12⟩, k2, kW, kR, kA, k6, k7⟩, hF, hP, hB⟩ := h
  have e : ∀ c, c ≠ 16 → c ≠ 17 → upd (upd f (256 * k + 16) ma) (256 * k + 17) co (256 * k + c) = f (256 * k + c) := fun c a b => by rw [ru, if_neg b, ru, if_neg a]
  have e16 : upd (upd f (256 * k + 16) ma) (256 * k + 17) co (256 * k + 16) = ma := by rw [ru, if_neg (by decide)]; exact pk_us
  have e17 : upd (upd f (256 * k + 16) ma) (256 * k + 17) co (256 * k + 17) = co := pk_us
  refine ⟨V, ⟨⟨?_, ?_, fun j a b => ?_, ?_, ?_, ?_, ?_, e16, e17, ?_, c11, ?_⟩, ?_, kW.fr (fun c hc => e c (by omega) (by omega)), kR.fr (fun c hc => e c (by omega) (by omega)), kA.fr (fun c hc => e c (by omega) (by omega)), k6, ?_⟩, hF.fr kW.2.2.2.2.1 (fun c hc => e c (by omega) (by omega)), hP.fr (fun c hc => e c (by omega) (by omega)), hB.fr (fun c hc => e c (by omega) (by omega))⟩
  · rw [e 4 (by decide) (by decide)]; exact c1
  · rw [e 5 (by decide) (by decide)]; exact c2
  · rw [show 256 * k + j + 5 = 256 * k + (j + 5) by omega, e (j + 5) (by omega) (by omega)]; exact c3 j a b
  · unfold T_last; rw [e 11 (by decide) (by decide)]; exact c4
  · rw [e 12 (by decide) (by decide)]; exact c5
  · rw [e 14 (by decide) (by decide)]; exact c6
  · rw [e 15 (by decide) (by decide)]; exact c7
  · rw [e 18 (by decide) (by decide)]; exact c10
  · rw [e 26 (by decide) (by decide)]; exact c12
  · rw [e 13 (by decide) (by decide)]; exact k2
  · rw [e 19 (by decide) (by decide)]; exact k7
theorem relN.g15 {f : Nat → Int32} {k q : Nat} {x : NS} (h : relN f k q x) : x.g 15 = f (256 * k + 16) := by
  obtain ⟨V, h⟩ := h; exact h.1.1.2.2.2.2.2.2.2.1.symm
set_option maxHeartbeats 4000000 in
theorem met_X_setFilter_n (l : Launch) (G : gG) (M : gM) (xa : Nat) (sv : Nat) (ms : Nat) (tx : Nat) (le : Int32) (ta : Nat) (of : Nat) (f : Nat → Int32) (q : Nat) (x : Int32) (ma : Int32) (co : Int32) (hx : ¬ (0 ≤ x ∧ x ≤ 3)) (hM_0 : M xa = some ((8, 0), .inr (0, [.ref of, .ref sv, .ref ms, .ref tx, .int le]))) : Met l yX0_setFilter (ws_ yX0_setFilter cX0_setFilter 5 (some .int)) ({ frames := 2, cells := 0, slots := 0, locals := 45 }) (gPc G [.ref xa, .int x, .int ma, .int co] M) (gQi G (fun r9 M9 k9 => r9 = (-1) ∧ M9 = M ∧ k9 = 0)) 0 0 (gA G) := by
  refine gMet [(0, .ref xa), (1, .int x), (2, .int ma), (3, .int co)] (by decide) (Nat.le_of_ble_eq_true rfl) rfl ?_
  intro p e s m below meth c hC
  refine g_iload_n hC dX0_setFilter_0 1 rfl 1 rfl ?_
  refine g_calliP (g_S (As := [.int x]) (rest := []) hC msX0_isNode q550 (met_X_isNode l G M x) ⟨rfl, rfl⟩ ⟨(Nat.le_of_ble_eq_true rfl), (Nat.le_of_ble_eq_true rfl)⟩ rfl (Nat.le_of_ble_eq_true rfl) dX0_setFilter_1 rfl ⟨(Nat.le_of_ble_eq_true rfl), (Nat.le_of_ble_eq_true rfl)⟩) 4 rfl 0 (Nat.le_of_ble_eq_true rfl) ?_
  refine g_if_ne hC dX0_setFilter_4 9 rfl 7 rfl (fun c_1 => ?_) (fun c_1 => ?_)
  · replace c_1 := bId_1 c_1
    exact absurd c_1 hx
  · replace c_1 := bId_0 c_1
    refine g_iconst hC dX0_setFilter_7 ki_m1 8 rfl ?_
    exact g_iret (v := -1) hC (fun k9 hk9 => ⟨rfl, rfl, Nat.le_zero.mp hk9⟩) dX0_setFilter_8 (Nat.le_of_ble_eq_true rfl) (Nat.le_of_ble_eq_true rfl)
set_option maxHeartbeats 4000000 in
theorem met_X_setFilter (l : Launch) (G : gG) (M : gM) (xa : Nat) (sv : Nat) (ms : Nat) (tx : Nat) (le : Int32) (ta : Nat) (of : Nat) (f : Nat → Int32) (q : Nat) (k : Nat) (ma : Int32) (co : Int32) (hta : 2 ≤ ta ∧ ta < 9) (hk : k < 4) (hM_0 : M xa = some ((8, 0), .inr (0, [.ref of, .ref sv, .ref ms, .ref tx, .int le]))) (hP_0 : busR M G ta of f q) : Met l yX0_setFilter (ws_ yX0_setFilter cX0_setFilter 5 (some .int)) ({ frames := 2, cells := 0, slots := 0, locals := 45 }) (gPc G [.ref xa, .int (nI k), .int ma, .int co] M) (gQi G (fun r9 M9 k9 => r9 = (if okM ma co then f (256 * k + 16) else -2) ∧ busR M9 G ta of (if okM ma co then upd (upd f (256 * k + 16) ma) (256 * k + 17) co else f) q ∧ gFr (gT (fun t => t.1 = ta ∨ t.1 = 9)) M M9 ∧ k9 = 0)) 0 0 (gA G) := by
  refine gMet [(0, .ref xa), (1, .int (nI k)), (2, .int ma), (3, .int co)] (by decide) (Nat.le_of_ble_eq_true rfl) rfl ?_
  intro p e s m below meth c hC
  refine g_iload_n hC dX0_setFilter_0 1 rfl 1 rfl ?_
  refine g_calliP (g_S (As := [.int (nI k)]) (rest := []) hC msX0_isNode q550 (met_X_isNode l G M (nI k)) ⟨rfl, rfl⟩ ⟨(Nat.le_of_ble_eq_true rfl), (Nat.le_of_ble_eq_true rfl)⟩ rfl (Nat.le_of_ble_eq_true rfl) dX0_setFilter_1 rfl ⟨(Nat.le_of_ble_eq_true rfl), (Nat.le_of_ble_eq_true rfl)⟩) 4 rfl 0 (Nat.le_of_ble_eq_true rfl) ?_
  refine g_if_ne hC dX0_setFilter_4 9 rfl 7 rfl (fun c_1 => ?_) (fun c_1 => ?_)
  · replace c_1 := bId_1 c_1
    refine g_iload_n hC dX0_setFilter_9 2 rfl 10 rfl ?_
    refine g_i2l hC dX0_setFilter_10 11 rfl ?_
    refine g_lconst (v := 0) hC dX0_setFilter_11 (by decide) 12 rfl ?_
    refine g_ldc2 hC q554 dX0_setFilter_12 15 rfl ?_
    refine g_calliP (g_S (As := [.long (Int32.toInt64 ma), .long 0, .long 2047]) (rest := []) hC msX0_isIn q541 (met_isIn l G M (Int32.toInt64 ma) 0 2047) ⟨rfl, rfl⟩ ⟨(Nat.le_of_ble_eq_true rfl), (Nat.le_of_ble_eq_true rfl)⟩ rfl (Nat.le_of_ble_eq_true rfl) dX0_setFilter_15 rfl ⟨(Nat.le_of_ble_eq_true rfl), (Nat.le_of_ble_eq_true rfl)⟩) 18 rfl 0 (Nat.le_of_ble_eq_true rfl) ?_
    refine g_topi (y := bI (decide (0 ≤ ma ∧ ma ≤ 2047))) (isIn_c 0 2047 (by decide) (by decide)) ?_
    refine g_if_eq hC dX0_setFilter_18 33 rfl 21 rfl (fun c_2 => ?_) (fun c_2 => ?_)
    · replace c_2 := bId_0 c_2
      refine g_bipush hC dX0_setFilter_33 kb_m2 35 rfl ?_
      exact g_iret (v := -2) hC (fun k9 hk9 => ⟨(by rw [if_neg (by simp only [okM, eq_true c_1, eq_false c_2, if_true, if_false, true_and, and_true, false_and, and_false, true_or, or_true, false_or, or_false, not_true_eq_false, not_false_eq_true, reduceIte, decide_true, decide_false, Bool.false_eq_true])]), (by rw [if_neg (by simp only [okM, eq_true c_1, eq_false c_2, if_true, if_false, true_and, and_true, false_and, and_false, true_or, or_true, false_or, or_false, not_true_eq_false, not_false_eq_true, reduceIte, decide_true, decide_false, Bool.false_eq_true])]; exact hP_0), gFr.refl, (by first | exact Nat.le_zero.mp hk9 | omega)⟩) dX0_setFilter_35 (Nat.le_of_ble_eq_true rfl) (Nat.le_of_ble_eq_true rfl)
    · replace c_2 := bId_1 c_2
      refine g_iload_n hC dX0_setFilter_21 3 rfl 22 rfl ?_
      refine g_i2l hC dX0_setFilter_22 23 rfl ?_
      refine g_lconst (v := 0) hC dX0_setFilter_23 (by decide) 24 rfl ?_
      refine g_ldc2 hC q554 dX0_setFilter_24 27 rfl ?_
      refine g_calliP (g_S (As := [.long (Int32.toInt64 co), .long 0, .long 2047]) (rest := []) hC msX0_isIn q541 (met_isIn l G M (Int32.toInt64 co) 0 2047) ⟨rfl, rfl⟩ ⟨(Nat.le_of_ble_eq_true rfl), (Nat.le_of_ble_eq_true rfl)⟩ rfl (Nat.le_of_ble_eq_true rfl) dX0_setFilter_27 rfl ⟨(Nat.le_of_ble_eq_true rfl), (Nat.le_of_ble_eq_true rfl)⟩) 30 rfl 0 (Nat.le_of_ble_eq_true rfl) ?_
      refine g_topi (y := bI (decide (0 ≤ co ∧ co ≤ 2047))) (isIn_c 0 2047 (by decide) (by decide)) ?_
      refine g_if_ne hC dX0_setFilter_30 36 rfl 33 rfl (fun c_3 => ?_) (fun c_3 => ?_)
      · replace c_3 := bId_1 c_3
        obtain ⟨bn_z4, bd_z4, bh_z4, nd_z4, tn_z4, pl_z4, ol_z4, rv_z4, A_z4, x_z4, b0_z4, b1_z4, hA_z4, hN_z4, hR_z4, ht_z4, hl_z4, hp_z4, hW_z4⟩ := busR.nd hP_0 hta (show k < 4 by omega)
        obtain ⟨sa_z5, wa_z5, rc_z5, an_z5, er_z5, hO_z5⟩ := isNd.cell hN_z4
        have hph9 := (relN.ph hR_z4).2
        refine g_aload_n hC dX0_setFilter_36 0 rfl gRef_r 37 rfl ?_
        refine g_get (v := .ref of) hC cI0 hM_0 0 (Nat.le_of_ble_eq_true rfl) q517 rfl dX0_setFilter_37 40 rfl ?_
        refine g_getN (v := .ref bn_z4) hC cI1 b0_z4 0 (Nat.le_of_ble_eq_true rfl) q470 rfl dX0_setFilter_40 43 rfl ?_
        refine g_iload_n hC dX0_setFilter_43 1 rfl 44 rfl ?_
        refine g_aldq (r := some nd_z4) hC b1_z4 4 rfl (vp_in_nI (by omega) (by omega)) ((congrArg A_z4 (nI_clamp (by omega))).trans hA_z4) dX0_setFilter_44 45 rfl ?_
        refine g_getN (v := .int (x_z4.g 15)) hC cI2 hO_z5 15 (Nat.le_of_ble_eq_true rfl) q402 rfl dX0_setFilter_45 48 rfl ?_
        refine g_istore hC dX0_setFilter_48 (Nat.le_of_ble_eq_true rfl) [(4, .int (x_z4.g 15)), (0, .ref xa), (1, .int (nI k)), (2, .int ma), (3, .int co)] rfl 50 rfl ?_
        refine g_aload_n hC dX0_setFilter_50 1 rfl gRef_r 51 rfl ?_
        refine g_get (v := .ref of) hC cI0 hM_0 0 (Nat.le_of_ble_eq_true rfl) q517 rfl dX0_setFilter_51 54 rfl ?_
        refine g_getN (v := .ref bn_z4) hC cI1 b0_z4 0 (Nat.le_of_ble_eq_true rfl) q470 rfl dX0_setFilter_54 57 rfl ?_
        refine g_iload_n hC dX0_setFilter_57 2 rfl 58 rfl ?_
        refine g_aldq (r := some nd_z4) hC b1_z4 4 rfl (vp_in_nI (by omega) (by omega)) ((congrArg A_z4 (nI_clamp (by omega))).trans hA_z4) dX0_setFilter_58 59 rfl ?_
        refine g_iload_n hC dX0_setFilter_59 3 rfl 60 rfl ?_
        obtain ⟨F8, eF9⟩ : ∃ z9, z9 = upd x_z4.g 15 ma := ⟨_, rfl⟩
        refine g_putN hC cI2 hO_z5 15 (Nat.le_of_ble_eq_true rfl) q402 rfl rfl rfl (Nat.le_of_ble_eq_true rfl) dX0_setFilter_60 (fs' := ndL G of x_z4.ph x_z4.cu sa_z5 wa_z5 rc_z5 an_z5 er_z5 F8) (by rw [eF9]; exact ndL_s15) 63 rfl (fun M6 hU7 => ?_)
        have hN10 := isNd.up hN_z4 hO_z5 hU7 hta.1
        refine g_aload_n hC dX0_setFilter_63 1 rfl gRef_r 64 rfl ?_
        refine g_get (v := .ref of) hC cI0 (hU7.n (gne_c hM_0 hO_z5 (by decide)) hM_0) 0 (Nat.le_of_ble_eq_true rfl) q517 rfl dX0_setFilter_64 67 rfl ?_
        refine g_getN (v := .ref bn_z4) hC cI1 (hU7.n (gne_c b0_z4 hO_z5 (by decide)) b0_z4) 0 (Nat.le_of_ble_eq_true rfl) q470 rfl dX0_setFilter_67 70 rfl ?_
        refine g_iload_n hC dX0_setFilter_70 2 rfl 71 rfl ?_
        refine g_aldq (r := some nd_z4) hC (hU7.n (gne_ao b1_z4 hO_z5) b1_z4) 4 rfl (vp_in_nI (by omega) (by omega)) ((congrArg A_z4 (nI_clamp (by omega))).trans hA_z4) dX0_setFilter_71 72 rfl ?_
        refine g_iload_n hC dX0_setFilter_72 4 rfl 73 rfl ?_
        obtain ⟨F13, eF14⟩ : ∃ z9, z9 = upd F8 16 co := ⟨_, rfl⟩
        refine g_putN hC cI2 hU7.1 16 (Nat.le_of_ble_eq_true rfl) q404 rfl rfl rfl (Nat.le_of_ble_eq_true rfl) dX0_setFilter_73 (fs' := ndL G of x_z4.ph x_z4.cu sa_z5 wa_z5 rc_z5 an_z5 er_z5 F13) (by rw [eF14]; exact ndL_s16) 76 rfl (fun M11 hU12 => ?_)
        have hN15 := isNd.up hN10 hU7.1 hU12 hta.1
        refine g_iload hC dX0_setFilter_76 0 rfl 78 rfl ?_
        exact g_iret (v := x_z4.g 15) hC (fun k9 hk9 => ⟨(by rw [if_pos (by simp only [okM, eq_true c_1, eq_true c_2, eq_true c_3, if_true, if_false, true_and, and_true, false_and, and_false, true_or, or_true, false_or, or_false, not_true_eq_false, not_false_eq_true, reduceIte, decide_true, decide_false, Bool.false_eq_true])]; exact relN.g15 hR_z4), (by rw [if_pos (by simp only [okM, eq_true c_1, eq_true c_2, eq_true c_3, if_true, if_false, true_and, and_true, false_and, and_false, true_or, or_true, false_or, or_false, not_true_eq_false, not_false_eq_true, reduceIte, decide_true, decide_false, Bool.false_eq_true])]; exact hW_z4 _ _ _ _ (Nat.le_refl _) ((gFr.refl.up hU7 hO_z5 (show (ndT9 ta k) (ta, 16 * k) by (try simp only [ndT, tgE, gT, tgR, ndT9, ndW, tg0, Prod.mk.injEq, true_and, and_true, cpyT]); first | done | omega | (simp; done))).up hU12 hU7.1 (show (ndT9 ta k) (ta, 16 * k) by (try simp only [ndT, tgE, gT, tgR, ndT9, ndW, tg0, Prod.mk.injEq, true_and, and_true, cpyT]); first | done | omega | (simp; done))) hN15 (by rw [eF14, eF9]; exact relN.filt hR_z4) (fun c hc => by rw [pk_un (by omega), pk_un (by omega)])), ((gFr.refl.up hU7 hO_z5 (show (fun t => t.1 = ta ∨ t.1 = 9) (ta, 16 * k) by (try simp only [ndT, tgE, gT, tgR, ndT9, ndW, tg0, Prod.mk.injEq, true_and, and_true, cpyT]); first | done | omega | (simp; done))).up hU12 hU7.1 (show (fun t => t.1 = ta ∨ t.1 = 9) (ta, 16 * k) by (try simp only [ndT, tgE, gT, tgR, ndT9, ndW, tg0, Prod.mk.injEq, true_and, and_true, cpyT]); first | done | omega | (simp; done))), (by first | exact Nat.le_zero.mp hk9 | omega)⟩) dX0_setFilter_78 (Nat.le_of_ble_eq_true rfl) (Nat.le_of_ble_eq_true rfl)
      · replace c_3 := bId_0 c_3
        refine g_bipush hC dX0_setFilter_33 kb_m2 35 rfl ?_
        exact g_iret (v := -2) hC (fun k9 hk9 => ⟨(by rw [if_neg (by simp only [okM, eq_true c_1, eq_true c_2, eq_false c_3, if_true, if_false, true_and, and_true, false_and, and_false, true_or, or_true, false_or, or_false, not_true_eq_false, not_false_eq_true, reduceIte, decide_true, decide_false, Bool.false_eq_true])]), (by rw [if_neg (by simp only [okM, eq_true c_1, eq_true c_2, eq_false c_3, if_true, if_false, true_and, and_true, false_and, and_false, true_or, or_true, false_or, or_false, not_true_eq_false, not_false_eq_true, reduceIte, decide_true, decide_false, Bool.false_eq_true])]; exact hP_0), gFr.refl, (by first | exact Nat.le_zero.mp hk9 | omega)⟩) dX0_setFilter_35 (Nat.le_of_ble_eq_true rfl) (Nat.le_of_ble_eq_true rfl)
  · replace c_1 := bId_0 c_1
    exact absurd (nk_in hk) c_1
