/-! the public methods: waitingFrame, discard -/
set_option maxRecDepth 100000
theorem in64 {y z : Int32} : ((0 : Int64) ≤ Int32.toInt64 y ∧ Int32.toInt64 y ≤ Int32.toInt64 z) ↔ (0 ≤ y ∧ y ≤ z) := by
  simp only [Int64.le_iff_toInt_le, Int32.le_iff_toInt_le, Int32.toInt_toInt64]
  exact Iff.rfl
theorem relN.wAt {f : Nat → Int32} {k q i : Nat} {x : NS} (h : relN f k q x) (hin : 0 ≤ nI i ∧ nI i ≤ f (256 * k + 23) - 1) (hi : i ≤ 3) : ∃ e, (pqPolls (pqFilt (fun _ => true) [] x.W) i).head? = some e ∧ e ∈ x.W ∧ T_key f k i = frK e.2 ∧ i < x.W.length := by
  have h23 := h.n23
  rw [h23.1] at hin
  have hl := in_len (a := 0) (n := 0) (by omega) hin rfl (by omega)
  obtain ⟨V, h⟩ := h
  have c3 := h.1.2.2.1
  have hlen := c3.1.length_eq
  have hW := pqCopy (by rw [← c3.1.length_eq]; exact c3.2.2.2.2.1) c3.1 c3.2.1
  have hs := pqPolls_spec i _ V (by rw [← hW.1.length_eq]; exact c3.2.2.2.2.1) hW.2 hW.1 c3.2.1
  have hv : V[i]? = some V[i] := List.getElem?_eq_getElem (by omega)
  exact ⟨V[i], hs.trans hv, c3.1.mem_iff.mp (List.getElem_mem _), (c3.2.2.2.2.2.2.1 i _ hv).key, hl⟩
set_option maxHeartbeats 4000000 in
theorem met_X_waitingFrame_n (l : Launch) (G : gG) (M : gM) (xa : Nat) (sv : Nat) (ms : Nat) (tx : Nat) (le : Int32) (ta : Nat) (of : Nat) (f : Nat → Int32) (q : Nat) (x : Int32) (y : Int32) (hx : ¬ (0 ≤ x ∧ x ≤ 3)) (hM_0 : M xa = some ((8, 0), .inr (0, [.ref of, .ref sv, .ref ms, .ref tx, .int le]))) : Met l yX0_waitingFrame (ws_ yX0_waitingFrame cX0_waitingFrame 3 (some .int)) ({ frames := 2, cells := 0, slots := 0, locals := 45 }) (gPc G [.ref xa, .int x, .int y] M) (gQi G (fun r9 M9 k9 => r9 = (-1) ∧ M9 = M ∧ k9 = 0)) 0 0 (gA G) := by
  refine gMet [(0, .ref xa), (1, .int x), (2, .int y)] (by decide) (Nat.le_of_ble_eq_true rfl) rfl ?_
  intro p e s m below meth c hC
  refine g_iload_n hC dX0_waitingFrame_0 1 rfl 1 rfl ?_
  refine g_calliP (g_S (As := [.int x]) (rest := []) hC msX0_isNode q550 (met_X_isNode l G M x) ⟨rfl, rfl⟩ ⟨(Nat.le_of_ble_eq_true rfl), (Nat.le_of_ble_eq_true rfl)⟩ rfl (Nat.le_of_ble_eq_true rfl) dX0_waitingFrame_1 rfl ⟨(Nat.le_of_ble_eq_true rfl), (Nat.le_of_ble_eq_true rfl)⟩) 4 rfl 0 (Nat.le_of_ble_eq_true rfl) ?_
  refine g_if_ne hC dX0_waitingFrame_4 9 rfl 7 rfl (fun c_1 => ?_) (fun c_1 => ?_)
  · replace c_1 := bId_1 c_1
    exact absurd c_1 hx
  · replace c_1 := bId_0 c_1
    refine g_iconst hC dX0_waitingFrame_7 ki_m1 8 rfl ?_
    exact g_iret (v := -1) hC (fun k9 hk9 => ⟨rfl, rfl, Nat.le_zero.mp hk9⟩) dX0_waitingFrame_8 (Nat.le_of_ble_eq_true rfl) (Nat.le_of_ble_eq_true rfl)
set_option maxHeartbeats 4000000 in
theorem met_X_waitingFrame_o (l : Launch) (G : gG) (M : gM) (xa : Nat) (sv : Nat) (ms : Nat) (tx : Nat) (le : Int32) (ta : Nat) (of : Nat) (f : Nat → Int32) (q : Nat) (k : Nat) (y : Int32) (hta : 2 ≤ ta ∧ ta < 9) (hk : k < 4) (hin : ¬ (0 ≤ y ∧ y ≤ f (256 * k + 23) - 1)) (hM_0 : M xa = some ((8, 0), .inr (0, [.ref of, .ref sv, .ref ms, .ref tx, .int le]))) (hP_0 : busR M G ta of f q) : Met l yX0_waitingFrame (ws_ yX0_waitingFrame cX0_waitingFrame 3 (some .int)) ({ frames := 2, cells := 0, slots := 0, locals := 45 }) (gPc G [.ref xa, .int (nI k), .int y] M) (gQi G (fun r9 M9 k9 => r9 = (-5) ∧ M9 = M ∧ k9 = 0)) 0 0 (gA G) := by
  refine gMet [(0, .ref xa), (1, .int (nI k)), (2, .int y)] (by decide) (Nat.le_of_ble_eq_true rfl) rfl ?_
  intro p e s m below meth c hC
  refine g_iload_n hC dX0_waitingFrame_0 1 rfl 1 rfl ?_
  refine g_calliP (g_S (As := [.int (nI k)]) (rest := []) hC msX0_isNode q550 (met_X_isNode l G M (nI k)) ⟨rfl, rfl⟩ ⟨(Nat.le_of_ble_eq_true rfl), (Nat.le_of_ble_eq_true rfl)⟩ rfl (Nat.le_of_ble_eq_true rfl) dX0_waitingFrame_1 rfl ⟨(Nat.le_of_ble_eq_true rfl), (Nat.le_of_ble_eq_true rfl)⟩) 4 rfl 0 (Nat.le_of_ble_eq_true rfl) ?_
  refine g_if_ne hC dX0_waitingFrame_4 9 rfl 7 rfl (fun c_1 => ?_) (fun c_1 => ?_)
  · replace c_1 := bId_1 c_1
    obtain ⟨bn_z2, bd_z2, bh_z2, nd_z2, tn_z2, pl_z2, ol_z2, rv_z2, A_z2, x_z2, b0_z2, b1_z2, hA_z2, hN_z2, hR_z2, ht_z2, hl_z2, hp_z2, hW_z2⟩ := busR.nd hP_0 hta (show k < 4 by omega)
    obtain ⟨sa_z3, wa_z3, rc_z3, an_z3, er_z3, wq_z3, wm_z3, hO_z3, hW_z3, hA_z3, hf_z3, hl_z3⟩ := isNd.wc hN_z2
    refine g_iload_n hC dX0_waitingFrame_9 2 rfl 10 rfl ?_
    refine g_i2l hC dX0_waitingFrame_10 11 rfl ?_
    refine g_lconst (v := 0) hC dX0_waitingFrame_11 (by decide) 12 rfl ?_
    refine g_aload_n hC dX0_waitingFrame_12 0 rfl gRef_r 13 rfl ?_
    refine g_get (v := .ref of) hC cI0 hM_0 0 (Nat.le_of_ble_eq_true rfl) q517 rfl dX0_waitingFrame_13 16 rfl ?_
    refine g_getN (v := .ref bn_z2) hC cI1 b0_z2 0 (Nat.le_of_ble_eq_true rfl) q470 rfl dX0_waitingFrame_16 19 rfl ?_
    refine g_iload_n hC dX0_waitingFrame_19 1 rfl 20 rfl ?_
    refine g_aldq (r := some nd_z2) hC b1_z2 4 rfl (vp_in_nI (by omega) (by omega)) ((congrArg A_z2 (nI_clamp (by omega))).trans hA_z2) dX0_waitingFrame_20 21 rfl ?_
    refine g_getN (v := .ref wa_z3) hC cI2 hO_z3 12 (Nat.le_of_ble_eq_true rfl) q396 rfl dX0_waitingFrame_21 24 rfl ?_
    refine g_calliP (g_V (As := []) (rest := [.long 0, .long (Int32.toInt64 y)]) hC mvJ6_size q1138 (gOf.of hC.K cI20 hW_z3) (met_PQ_size l G M wa_z3 wq_z3 (ta, 16 * k + 2) (0, 0) wm_z3 x_z2.W hW_z3) ⟨rfl, rfl⟩ ⟨(Nat.le_of_ble_eq_true rfl), (Nat.le_of_ble_eq_true rfl)⟩ rfl (Nat.le_of_ble_eq_true rfl) dX0_waitingFrame_24 rfl ⟨(Nat.le_of_ble_eq_true rfl), (Nat.le_of_ble_eq_true rfl)⟩) 27 rfl 0 (Nat.le_of_ble_eq_true rfl) ?_
    refine g_topi (y := f (256 * k + 23)) (relN.wl hR_z2) ?_
    refine g_iconst hC dX0_waitingFrame_27 ki_1 28 rfl ?_
    refine g_isub hC dX0_waitingFrame_28 29 rfl ?_
    refine g_i2l hC dX0_waitingFrame_29 30 rfl ?_
    refine g_calliP (g_S (As := [.long (Int32.toInt64 y), .long 0, .long (Int32.toInt64 ((f (256 * k + 23)) - 1))]) (rest := []) hC msX0_isIn q541 (met_isIn l G M (Int32.toInt64 y) 0 (Int32.toInt64 ((f (256 * k + 23)) - 1))) ⟨rfl, rfl⟩ ⟨(Nat.le_of_ble_eq_true rfl), (Nat.le_of_ble_eq_true rfl)⟩ rfl (Nat.le_of_ble_eq_true rfl) dX0_waitingFrame_30 rfl ⟨(Nat.le_of_ble_eq_true rfl), (Nat.le_of_ble_eq_true rfl)⟩) 33 rfl 0 (Nat.le_of_ble_eq_true rfl) ?_
    refine g_if_eq hC dX0_waitingFrame_33 55 rfl 36 rfl (fun c_4 => ?_) (fun c_4 => ?_)
    · replace c_4 := bId_0 c_4
      refine g_bipush hC dX0_waitingFrame_55 kb_m5 57 rfl ?_
      exact g_iret (v := -5) hC (fun k9 hk9 => ⟨rfl, rfl, Nat.le_zero.mp hk9⟩) dX0_waitingFrame_57 (Nat.le_of_ble_eq_true rfl) (Nat.le_of_ble_eq_true rfl)
    · replace c_4 := bId_1 c_4
      exact absurd (in64.mp c_4) hin
  · replace c_1 := bId_0 c_1
    exact absurd (nk_in hk) c_1
set_option maxHeartbeats 4000000 in
theorem met_X_waitingFrame (l : Launch) (G : gG) (M : gM) (xa : Nat) (sv : Nat) (ms : Nat) (tx : Nat) (le : Int32) (ta : Nat) (of : Nat) (f : Nat → Int32) (q : Nat) (k : Nat) (i : Nat) (hta : 2 ≤ ta ∧ ta < 9) (hk : k < 4) (hin : 0 ≤ nI i ∧ nI i ≤ f (256 * k + 23) - 1) (hi : i ≤ 3) (hM_0 : M xa = some ((8, 0), .inr (0, [.ref of, .ref sv, .ref ms, .ref tx, .int le]))) (hP_0 : busR M G ta of f q) : Met l yX0_waitingFrame (ws_ yX0_waitingFrame cX0_waitingFrame 3 (some .int)) ({ frames := 8, cells := 3, slots := 14, locals := 210 }) (gPc G [.ref xa, .int (nI k), .int (nI i)] M) (gQi G (fun r9 M9 k9 => r9 = (T_key f k i) ∧ busR M9 G ta of f q ∧ gFr (gT (tgR 9 0 8)) M M9 ∧ k9 ≤ 3)) 3 14 (gA G) := by
  refine gMet [(0, .ref xa), (1, .int (nI k)), (2, .int (nI i))] (by decide) (Nat.le_of_ble_eq_true rfl) rfl ?_
  intro p e s m below meth c hC
  refine g_iload_n hC dX0_waitingFrame_0 1 rfl 1 rfl ?_
  refine g_calliP (g_S (As := [.int (nI k)]) (rest := []) hC msX0_isNode q550 (met_X_isNode l G M (nI k)) ⟨rfl, rfl⟩ ⟨(Nat.le_of_ble_eq_true rfl), (Nat.le_of_ble_eq_true rfl)⟩ rfl (Nat.le_of_ble_eq_true rfl) dX0_waitingFrame_1 rfl ⟨(Nat.le_of_ble_eq_true rfl), (Nat.le_of_ble_eq_true rfl)⟩) 4 rfl 0 (Nat.le_of_ble_eq_true rfl) ?_
  refine g_if_ne hC dX0_waitingFrame_4 9 rfl 7 rfl (fun c_1 => ?_) (fun c_1 => ?_)
  · replace c_1 := bId_1 c_1
    obtain ⟨bn_z2, bd_z2, bh_z2, nd_z2, tn_z2, pl_z2, ol_z2, rv_z2, A_z2, x_z2, b0_z2, b1_z2, hA_z2, hN_z2, hR_z2, ht_z2, hl_z2, hp_z2, hW_z2⟩ := busR.nd hP_0 hta (show k < 4 by omega)
    obtain ⟨sa_z3, wa_z3, rc_z3, an_z3, er_z3, wq_z3, wm_z3, hO_z3, hW_z3, hA_z3, hf_z3, hl_z3⟩ := isNd.wc hN_z2
    refine g_iload_n hC dX0_waitingFrame_9 2 rfl 10 rfl ?_
    refine g_i2l hC dX0_waitingFrame_10 11 rfl ?_
    refine g_lconst (v := 0) hC dX0_waitingFrame_11 (by decide) 12 rfl ?_
    refine g_aload_n hC dX0_waitingFrame_12 0 rfl gRef_r 13 rfl ?_
    refine g_get (v := .ref of) hC cI0 hM_0 0 (Nat.le_of_ble_eq_true rfl) q517 rfl dX0_waitingFrame_13 16 rfl ?_
    refine g_getN (v := .ref bn_z2) hC cI1 b0_z2 0 (Nat.le_of_ble_eq_true rfl) q470 rfl dX0_waitingFrame_16 19 rfl ?_
    refine g_iload_n hC dX0_waitingFrame_19 1 rfl 20 rfl ?_
    refine g_aldq (r := some nd_z2) hC b1_z2 4 rfl (vp_in_nI (by omega) (by omega)) ((congrArg A_z2 (nI_clamp (by omega))).trans hA_z2) dX0_waitingFrame_20 21 rfl ?_
    refine g_getN (v := .ref wa_z3) hC cI2 hO_z3 12 (Nat.le_of_ble_eq_true rfl) q396 rfl dX0_waitingFrame_21 24 rfl ?_
    refine g_calliP (g_V (As := []) (rest := [.long 0, .long (Int32.toInt64 (nI i))]) hC mvJ6_size q1138 (gOf.of hC.K cI20 hW_z3) (met_PQ_size l G M wa_z3 wq_z3 (ta, 16 * k + 2) (0, 0) wm_z3 x_z2.W hW_z3) ⟨rfl, rfl⟩ ⟨(Nat.le_of_ble_eq_true rfl), (Nat.le_of_ble_eq_true rfl)⟩ rfl (Nat.le_of_ble_eq_true rfl) dX0_waitingFrame_24 rfl ⟨(Nat.le_of_ble_eq_true rfl), (Nat.le_of_ble_eq_true rfl)⟩) 27 rfl 0 (Nat.le_of_ble_eq_true rfl) ?_
    refine g_topi (y := f (256 * k + 23)) (relN.wl hR_z2) ?_
    refine g_iconst hC dX0_waitingFrame_27 ki_1 28 rfl ?_
    refine g_isub hC dX0_waitingFrame_28 29 rfl ?_
    refine g_i2l hC dX0_waitingFrame_29 30 rfl ?_
    refine g_calliP (g_S (As := [.long (Int32.toInt64 (nI i)), .long 0, .long (Int32.toInt64 ((f (256 * k + 23)) - 1))]) (rest := []) hC msX0_isIn q541 (met_isIn l G M (Int32.toInt64 (nI i)) 0 (Int32.toInt64 ((f (256 * k + 23)) - 1))) ⟨rfl, rfl⟩ ⟨(Nat.le_of_ble_eq_true rfl), (Nat.le_of_ble_eq_true rfl)⟩ rfl (Nat.le_of_ble_eq_true rfl) dX0_waitingFrame_30 rfl ⟨(Nat.le_of_ble_eq_true rfl), (Nat.le_of_ble_eq_true rfl)⟩) 33 rfl 0 (Nat.le_of_ble_eq_true rfl) ?_
    refine g_if_eq hC dX0_waitingFrame_33 55 rfl 36 rfl (fun c_4 => ?_) (fun c_4 => ?_)
    · replace c_4 := bId_0 c_4
      exact absurd (in64.mpr hin) c_4
    · replace c_4 := bId_1 c_4
      refine g_aload_n hC dX0_waitingFrame_36 0 rfl gRef_r 37 rfl ?_
      refine g_get (v := .ref of) hC cI0 hM_0 0 (Nat.le_of_ble_eq_true rfl) q517 rfl dX0_waitingFrame_37 40 rfl ?_
      refine g_getN (v := .ref bn_z2) hC cI1 b0_z2 0 (Nat.le_of_ble_eq_true rfl) q470 rfl dX0_waitingFrame_40 43 rfl ?_
      refine g_iload_n hC dX0_waitingFrame_43 1 rfl 44 rfl ?_
      refine g_aldq (r := some nd_z2) hC b1_z2 4 rfl (vp_in_nI (by omega) (by omega)) ((congrArg A_z2 (nI_clamp (by omega))).trans hA_z2) dX0_waitingFrame_44 45 rfl ?_
      obtain ⟨e9, he9, hm9, hky9, hl9⟩ := relN.wAt hR_z2 hin hi
      refine g_iload_n hC dX0_waitingFrame_45 2 rfl 46 rfl ?_
      refine g_callq (g_V (As := [.int (nI i)]) (rest := []) hC mvX2_waitingAt q2380 (isNd.cls hC.K hN_z2) (met_N_waitingAt l G M ta k of nd_z2 x_z2 i e9 hta hl9 he9 hN_z2) ⟨rfl, rfl⟩ ⟨(Nat.le_of_ble_eq_true rfl), (Nat.le_of_ble_eq_true rfl)⟩ rfl (Nat.le_of_ble_eq_true rfl) dX0_waitingFrame_46 rfl ⟨(Nat.le_of_ble_eq_true rfl), (Nat.le_of_ble_eq_true rfl)⟩) 3 (Nat.le_of_ble_eq_true rfl) 14 (Nat.le_of_ble_eq_true rfl) 49 rfl (fun r8 M5 k6 hp7 => ?_)
      obtain ⟨rfl, hpd9, hF10, hk11⟩ := hp7
      have hE12 := (frs.fr hf_z3 (gFr.refl.trans (hF10.mono (fun b t h => by obtain ⟨u9, v9⟩ := t; revert h; (try simp only [ndT, tgE, gT, tgR, ndT9, ndW, tg0, Prod.mk.injEq, true_and, and_true, cpyT]); first | done | omega | (simp; done) | (intro h; simp_all; done))))) e9 hm9
      refine g_calliP (g_V (As := []) (rest := []) hC mvX9_key q2388 (gOf.of hC.K cI8 hE12) (met_Fr_key l G M5 e9.1 (0, 1) e9.2.1 e9.2.2.1 e9.2.2.2.1 e9.2.2.2.2.1 e9.2.2.2.2.2 hE12) ⟨rfl, rfl⟩ ⟨(Nat.le_of_ble_eq_true rfl), (Nat.le_of_ble_eq_true rfl)⟩ rfl (Nat.le_of_ble_eq_true rfl) dX0_waitingFrame_49 rfl ⟨(Nat.le_of_ble_eq_true rfl), (Nat.le_of_ble_eq_true rfl)⟩) 52 rfl 14 (Nat.le_of_ble_eq_true rfl) ?_
      refine g_goto hC dX0_waitingFrame_52 57 rfl ?_
      exact g_iret (v := fr_key e9.2.1 e9.2.2.1) hC (fun k9 hk9 => ⟨hky9.symm, (busR.fr hP_0 (gFr.refl.trans (hF10.mono (fun b t h => by obtain ⟨u9, v9⟩ := t; revert h; (try simp only [ndT, tgE, gT, tgR, ndT9, ndW, tg0, Prod.mk.injEq, true_and, and_true, cpyT]); first | done | omega | (simp; done) | (intro h; simp_all; done))))), (gFr.refl.trans (hF10.mono (fun b t h => by obtain ⟨u9, v9⟩ := t; revert h; (try simp only [ndT, tgE, gT, tgR, ndT9, ndW, tg0, Prod.mk.injEq, true_and, and_true, cpyT]); first | done | omega | (simp; done) | (intro h; simp_all; done)))), (by first | exact Nat.le_zero.mp hk9 | omega)⟩) dX0_waitingFrame_57 (Nat.le_of_ble_eq_true rfl) (Nat.le_of_ble_eq_true rfl)
  · replace c_1 := bId_0 c_1
    exact absurd (nk_in hk) c_1
theorem isNd.upR {M M' : gM} {G : gG} {ta k of nd sa wa rc an er rq rh rh' : Nat} {x : NS} {R' : List pqE} (h : isNd M G ta k of nd x) (hc : M nd = some ((ta, 16 * k), .inr (2, ndL G of x.ph x.cu sa wa rc an er x.g))) (hrc : M rc = some ((ta, 16 * k + 4), .inr (22, [.ref rq, .int (nI rh), .int (nI ((rh + x.R.length) % 8))]))) (h1 : M' rc = some ((ta, 16 * k + 4), .inr (22, [.ref rq, .int (nI rh'), .int (nI ((rh' + R'.length) % 8))]))) (h2 : M' rq = some ((ta, 16 * k + 5), .inl (gcs G 3, 8, .inr (.inr (.inr (.inr (dqA rh' R'))))))) (hF : gFr (gT (fun t => tgE ta (16 * k + 4) t ∨ tgE ta (16 * k + 5) t)) M M') (hta : 2 ≤ ta) (hr : rh' < 8) (hR : R'.length ≤ 6) (hs : ∀ e ∈ R', e ∈ x.R) : isNd M' G ta k of nd (x.ph, x.cu, x.g, x.s, x.e, x.W, R', x.C, x.ad) := by
  obtain ⟨sa1, wa1, rc1, an1, er1, wq, wm, rq1, rh1, h0, g1, g2, g3, g4, g5, g8, f1, f2, tm, aw, i1, i2, i3⟩ := h
  have e := hc.symm.trans h0
  simp only [Option.some.injEq, Prod.mk.injEq, Sum.inr.injEq, true_and] at e
  obtain ⟨rfl, rfl, rfl, rfl, rfl⟩ := ndL_inj e
  have f2' : frs M R' := fun e he => f2 e (hs e he)
  refine ⟨sa, wa, rc, an, er, wq, wm, rq, rh', hF _ _ _ h0 (by simp [gT, tgE]), hF _ _ _ g1 (by simp [gT, tgE]), hF _ _ _ g2 (by simp [gT, tgE]), hF _ _ _ g3 (by simp [gT, tgE]), h1, h2, hF _ _ _ g8 (by simp [gT, tgE]), f1.fr (hF.mono ?_), f2'.fr (hF.mono ?_), tm.fr (hF.mono ?_), aw.fr (hF.mono ?_), i1, hr, hR⟩
  all_goals (intro b t q; obtain ⟨u9, v9⟩ := t; simp only [gT, Prod.mk.injEq, tgE, tg0, ndT] at q ⊢; omega)
theorem relN.disc {f : Nat → Int32} {k q : Nat} {x : NS} {e : pqE} {L : List pqE} (h : relN f k q x) (hR : x.R = e :: L) : relN (T_disc f k L.length) k q (x.ph, x.cu, x.g, x.s, x.e, x.W, L, x.C, x.ad) := by
  obtain ⟨V, ⟨c1, k2, kW, kR, kA, k6, k7⟩, hF, hP, hB⟩ := h
  have hl : L.length ≤ 5 := by have := kR.1; rw [hR] at this; simpa using this
  have rd : ∀ c, c < 256 → T_disc f k L.length (256 * k + c) = if 50 ≤ c ∧ c < 50 + 4 * L.length then f (256 * k + (c + 4)) else if c = 24 then nI L.length else f (256 * k + c) := by
    intro c hc
    unfold T_disc
    rw [cpT_rd (by omega)]
    by_cases z : 50 ≤ c ∧ c < 50 + 4 * L.length
    · rw [if_pos z, if_pos (by omega), pk_un (by omega), Nat.add_assoc]
    · rw [if_neg z, if_neg (by omega), ru]
  have e : ∀ c, c < 256 → c ≠ 24 → (c < 50 ∨ 74 ≤ c) → T_disc f k L.length (256 * k + c) = f (256 * k + c) := fun c h1 h2 h3 => by rw [rd c h1, if_neg (by omega), if_neg h2]
  refine ⟨V, ⟨c1.fr (fun c hc => e c (by omega) (by omega) (by omega)), ?_, kW.fr (fun c hc => e c (by omega) (by omega) (by omega)), ⟨Nat.le_trans hl (by decide), ?_, fun i e' he => ?_⟩, kA.fr (fun c hc => e c (by omega) (by omega) (by omega)), k6, ?_⟩, hF.fr kW.2.2.2.2.1 (fun c hc => e c (by omega) (by omega) (by omega)), hP.fr (fun c hc => e c (by omega) (by omega) (by omega)), hB.fr (fun c hc => e c (by omega) (by omega) (by omega))⟩
  · rw [e 13 (by omega) (by omega) (by omega)]; exact k2
  · show T_disc f k L.length (256 * k + 24) = nI L.length
    rw [rd 24 (by omega), if_neg (by omega), if_pos rfl]
  · have hi : i < L.length := (List.getElem?_eq_some_iff.mp he).1
    have h4 := kR.2.2 (i + 1) e' (by rw [hR]; exact he)
    have w : ∀ c, 50 ≤ c → c < 54 → T_disc f k L.length (256 * k + 4 * i + c) = f (256 * k + 4 * (i + 1) + c) := fun c h1 h2 => by
      rw [Nat.add_assoc, rd (4 * i + c) (by omega), if_pos (by omega)]
      congr 1
      omega
    rw [w 50 (by omega) (by omega), w 51 (by omega) (by omega), w 52 (by omega) (by omega), w 53 (by omega) (by omega)]
    exact h4
  · rw [e 19 (by omega) (by omega) (by omega)]; exact k7
set_option maxHeartbeats 4000000 in
theorem met_X_discard_n (l : Launch) (G : gG) (M : gM) (xa : Nat) (sv : Nat) (ms : Nat) (tx : Nat) (le : Int32) (ta : Nat) (of : Nat) (f : Nat → Int32) (q : Nat) (x : Int32) (hx : ¬ (0 ≤ x ∧ x ≤ 3)) (hM_0 : M xa = some ((8, 0), .inr (0, [.ref of, .ref sv, .ref ms, .ref tx, .int le]))) : Met l yX0_discard (ws_ yX0_discard cX0_discard 3 (some .int)) ({ frames := 2, cells := 0, slots := 0, locals := 45 }) (gPc G [.ref xa, .int x] M) (gQi G (fun r9 M9 k9 => r9 = (-1) ∧ M9 = M ∧ k9 = 0)) 0 0 (gA G) := by
  refine gMet [(0, .ref xa), (1, .int x)] (by decide) (Nat.le_of_ble_eq_true rfl) rfl ?_
  intro p e s m below meth c hC
  refine g_iload_n hC dX0_discard_0 1 rfl 1 rfl ?_
  refine g_calliP (g_S (As := [.int x]) (rest := []) hC msX0_isNode q550 (met_X_isNode l G M x) ⟨rfl, rfl⟩ ⟨(Nat.le_of_ble_eq_true rfl), (Nat.le_of_ble_eq_true rfl)⟩ rfl (Nat.le_of_ble_eq_true rfl) dX0_discard_1 rfl ⟨(Nat.le_of_ble_eq_true rfl), (Nat.le_of_ble_eq_true rfl)⟩) 4 rfl 0 (Nat.le_of_ble_eq_true rfl) ?_
  refine g_if_ne hC dX0_discard_4 9 rfl 7 rfl (fun c_1 => ?_) (fun c_1 => ?_)
  · replace c_1 := bId_1 c_1
    exact absurd c_1 hx
  · replace c_1 := bId_0 c_1
    refine g_iconst hC dX0_discard_7 ki_m1 8 rfl ?_
    exact g_iret (v := -1) hC (fun k9 hk9 => ⟨rfl, rfl, Nat.le_zero.mp hk9⟩) dX0_discard_8 (Nat.le_of_ble_eq_true rfl) (Nat.le_of_ble_eq_true rfl)
set_option maxHeartbeats 4000000 in
theorem met_X_discard_0 (l : Launch) (G : gG) (M : gM) (xa : Nat) (sv : Nat) (ms : Nat) (tx : Nat) (le : Int32) (ta : Nat) (of : Nat) (f : Nat → Int32) (q : Nat) (k : Nat) (hta : 2 ≤ ta ∧ ta < 9) (hk : k < 4) (h0 : f (256 * k + 24) = 0) (hM_0 : M xa = some ((8, 0), .inr (0, [.ref of, .ref sv, .ref ms, .ref tx, .int le]))) (hP_0 : busR M G ta of f q) : Met l yX0_discard (ws_ yX0_discard cX0_discard 3 (some .int)) ({ frames := 2, cells := 0, slots := 0, locals := 45 }) (gPc G [.ref xa, .int (nI k)] M) (gQi G (fun r9 M9 k9 => r9 = (-5) ∧ M9 = M ∧ k9 = 0)) 0 0 (gA G) := by
  refine gMet [(0, .ref xa), (1, .int (nI k))] (by decide) (Nat.le_of_ble_eq_true rfl) rfl ?_
  intro p e s m below meth c hC
  refine g_iload_n hC dX0_discard_0 1 rfl 1 rfl ?_
  refine g_calliP (g_S (As := [.int (nI k)]) (rest := []) hC msX0_isNode q550 (met_X_isNode l G M (nI k)) ⟨rfl, rfl⟩ ⟨(Nat.le_of_ble_eq_true rfl), (Nat.le_of_ble_eq_true rfl)⟩ rfl (Nat.le_of_ble_eq_true rfl) dX0_discard_1 rfl ⟨(Nat.le_of_ble_eq_true rfl), (Nat.le_of_ble_eq_true rfl)⟩) 4 rfl 0 (Nat.le_of_ble_eq_true rfl) ?_
  refine g_if_ne hC dX0_discard_4 9 rfl 7 rfl (fun c_1 => ?_) (fun c_1 => ?_)
  · replace c_1 := bId_1 c_1
    obtain ⟨bn_z2, bd_z2, bh_z2, nd_z2, tn_z2, pl_z2, ol_z2, rv_z2, A_z2, x_z2, b0_z2, b1_z2, hA_z2, hN_z2, hR_z2, ht_z2, hl_z2, hp_z2, hW_z2⟩ := busR.nd hP_0 hta (show k < 4 by omega)
    obtain ⟨sa_z3, wa_z3, rc_z3, an_z3, er_z3, rq_z3, rh_z3, hO_z3, hD_z3, hA_z3, hE_z3, hf_z3, hr8_z3, hr6_z3⟩ := isNd.oc hN_z2
    have hR9 : x_z2.R = [] := by cases hr : x_z2.R with | nil => rfl | cons e L => exact absurd (by have h9 := relN.r24 hR_z2; rw [hr, h0] at h9; have := h9.2; simp only [List.length_cons] at h9 this; exact (nn_eq (a := 0) (by decide) (by omega) h9.1)) (by simp)
    have hD9 := hD_z3
    have hA9 := hA_z3
    rw [hR9] at hD9 hA9
    refine g_aload_n hC dX0_discard_9 0 rfl gRef_r 10 rfl ?_
    refine g_get (v := .ref of) hC cI0 hM_0 0 (Nat.le_of_ble_eq_true rfl) q517 rfl dX0_discard_10 13 rfl ?_
    refine g_getN (v := .ref bn_z2) hC cI1 b0_z2 0 (Nat.le_of_ble_eq_true rfl) q470 rfl dX0_discard_13 16 rfl ?_
    refine g_iload_n hC dX0_discard_16 1 rfl 17 rfl ?_
    refine g_aldq (r := some nd_z2) hC b1_z2 4 rfl (vp_in_nI (by omega) (by omega)) ((congrArg A_z2 (nI_clamp (by omega))).trans hA_z2) dX0_discard_17 18 rfl ?_
    refine g_getN (v := .ref rc_z3) hC cI2 hO_z3 13 (Nat.le_of_ble_eq_true rfl) q398 rfl dX0_discard_18 21 rfl ?_
    refine g_astore_n hC dX0_discard_21 rfl gRef_r (Nat.le_of_ble_eq_true rfl) [(2, .ref rc_z3), (0, .ref xa), (1, .int (nI k))] rfl 22 rfl ?_
    refine g_aload_n hC dX0_discard_22 0 rfl gRef_r 23 rfl ?_
    refine g_callqP (g_V (As := []) (rest := []) hC mvJ7_pollFirst q2442 (gOf.of hC.K cI22 hD9) (met_DQ_poll_0 l G M rc_z3 rq_z3 (ta, 16 * k + 4) (ta, 16 * k + 5) rh_z3 ([] : List pqE) hr8_z3 rfl hD9 hA9) ⟨rfl, rfl⟩ ⟨(Nat.le_of_ble_eq_true rfl), (Nat.le_of_ble_eq_true rfl)⟩ rfl (Nat.le_of_ble_eq_true rfl) dX0_discard_23 rfl ⟨(Nat.le_of_ble_eq_true rfl), (Nat.le_of_ble_eq_true rfl)⟩) 26 rfl 0 (Nat.le_of_ble_eq_true rfl) ?_
    refine g_ifnonnull (r := none) hC dX0_discard_26 34 rfl 29 rfl (fun _ q => by cases q) (fun _ => ?_)
    refine g_bipush hC dX0_discard_29 kb_m5 31 rfl ?_
    refine g_goto hC dX0_discard_31 38 rfl ?_
    exact g_iret (v := -5) hC (fun k9 hk9 => ⟨rfl, rfl, Nat.le_zero.mp hk9⟩) dX0_discard_38 (Nat.le_of_ble_eq_true rfl) (Nat.le_of_ble_eq_true rfl)
  · replace c_1 := bId_0 c_1
    exact absurd (nk_in hk) c_1
set_option maxHeartbeats 4000000 in
theorem met_X_discard (l : Launch) (G : gG) (M : gM) (xa : Nat) (sv : Nat) (ms : Nat) (tx : Nat) (le : Int32) (ta : Nat) (of : Nat) (f : Nat → Int32) (q : Nat) (k : Nat) (n1 : Nat) (hta : 2 ≤ ta ∧ ta < 9) (hk : k < 4) (hnr : f (256 * k + 24) = nI (n1 + 1)) (hn5 : n1 ≤ 5) (hM_0 : M xa = some ((8, 0), .inr (0, [.ref of, .ref sv, .ref ms, .ref tx, .int le]))) (hP_0 : busR M G ta of f q) : Met l yX0_discard (ws_ yX0_discard cX0_discard 3 (some .int)) ({ frames := 2, cells := 0, slots := 0, locals := 45 }) (gPc G [.ref xa, .int (nI k)] M) (gQi G (fun r9 M9 k9 => r9 = (nI n1) ∧ busR M9 G ta of (T_disc f k n1) q ∧ gFr (gT (fun t => t.1 = ta ∨ t.1 = 9)) M M9 ∧ k9 = 0)) 0 0 (gA G) := by
  refine gMet [(0, .ref xa), (1, .int (nI k))] (by decide) (Nat.le_of_ble_eq_true rfl) rfl ?_
  intro p e s m below meth c hC
  refine g_iload_n hC dX0_discard_0 1 rfl 1 rfl ?_
  refine g_calliP (g_S (As := [.int (nI k)]) (rest := []) hC msX0_isNode q550 (met_X_isNode l G M (nI k)) ⟨rfl, rfl⟩ ⟨(Nat.le_of_ble_eq_true rfl), (Nat.le_of_ble_eq_true rfl)⟩ rfl (Nat.le_of_ble_eq_true rfl) dX0_discard_1 rfl ⟨(Nat.le_of_ble_eq_true rfl), (Nat.le_of_ble_eq_true rfl)⟩) 4 rfl 0 (Nat.le_of_ble_eq_true rfl) ?_
  refine g_if_ne hC dX0_discard_4 9 rfl 7 rfl (fun c_1 => ?_) (fun c_1 => ?_)
  · replace c_1 := bId_1 c_1
    obtain ⟨bn_z2, bd_z2, bh_z2, nd_z2, tn_z2, pl_z2, ol_z2, rv_z2, A_z2, x_z2, b0_z2, b1_z2, hA_z2, hN_z2, hR_z2, ht_z2, hl_z2, hp_z2, hW_z2⟩ := busR.nd hP_0 hta (show k < 4 by omega)
    obtain ⟨sa_z3, wa_z3, rc_z3, an_z3, er_z3, rq_z3, rh_z3, hO_z3, hD_z3, hA_z3, hE_z3, hf_z3, hr8_z3, hr6_z3⟩ := isNd.oc hN_z2
    obtain ⟨e9, L9, hR9⟩ : ∃ e L, x_z2.R = e :: L := by
      cases hr : x_z2.R with
      | nil => have h9 := (relN.r24 hR_z2).1; rw [hr, hnr] at h9; exact absurd (nn_eq (by omega) (by decide) h9) (by simp)
      | cons e L => exact ⟨e, L, rfl⟩
    have hn9 : L9.length = n1 := by have h9 := relN.r24 hR_z2; rw [hR9, hnr] at h9; have := h9.2; simp only [List.length_cons] at h9 this; have := nn_eq (by omega) (by omega) h9.1; omega
    have hD9 := hD_z3
    have hA9 := hA_z3
    rw [hR9] at hD9 hA9
    refine g_aload_n hC dX0_discard_9 0 rfl gRef_r 10 rfl ?_
    refine g_get (v := .ref of) hC cI0 hM_0 0 (Nat.le_of_ble_eq_true rfl) q517 rfl dX0_discard_10 13 rfl ?_
    refine g_getN (v := .ref bn_z2) hC cI1 b0_z2 0 (Nat.le_of_ble_eq_true rfl) q470 rfl dX0_discard_13 16 rfl ?_
    refine g_iload_n hC dX0_discard_16 1 rfl 17 rfl ?_
    refine g_aldq (r := some nd_z2) hC b1_z2 4 rfl (vp_in_nI (by omega) (by omega)) ((congrArg A_z2 (nI_clamp (by omega))).trans hA_z2) dX0_discard_17 18 rfl ?_
    refine g_getN (v := .ref rc_z3) hC cI2 hO_z3 13 (Nat.le_of_ble_eq_true rfl) q398 rfl dX0_discard_18 21 rfl ?_
    refine g_astore_n hC dX0_discard_21 rfl gRef_r (Nat.le_of_ble_eq_true rfl) [(2, .ref rc_z3), (0, .ref xa), (1, .int (nI k))] rfl 22 rfl ?_
    refine g_aload_n hC dX0_discard_22 0 rfl gRef_r 23 rfl ?_
    refine g_callq (g_V (As := []) (rest := []) hC mvJ7_pollFirst q2442 (gOf.of hC.K cI22 hD9) (met_DQ_poll l G M rc_z3 rq_z3 (ta, 16 * k + 4) (ta, 16 * k + 5) rh_z3 L9 e9 hr8_z3 (by first | assumption | decide | omega | (dsimp only; omega) | simp_all) hD9 hA9) ⟨rfl, rfl⟩ ⟨(Nat.le_of_ble_eq_true rfl), (Nat.le_of_ble_eq_true rfl)⟩ rfl (Nat.le_of_ble_eq_true rfl) dX0_discard_23 rfl ⟨(Nat.le_of_ble_eq_true rfl), (Nat.le_of_ble_eq_true rfl)⟩) 0 (Nat.le_of_ble_eq_true rfl) 0 (Nat.le_of_ble_eq_true rfl) 26 rfl (fun r7 M4 k5 hp6 => ?_)
    obtain ⟨rfl, hc8, hc9, hF10, hk11⟩ := hp6
    refine g_ifnonnull (r := some e9.1) hC dX0_discard_26 34 rfl 29 rfl (fun _ _ => ?_) (fun q => by cases q)
    refine g_aload_n hC dX0_discard_34 0 rfl gRef_r 35 rfl ?_
    refine g_calliP (g_V (As := []) (rest := []) hC mvJ7_size q2393 (gOf.of hC.K cI22 hc8) (met_DQ_size l G M4 rc_z3 rq_z3 (ta, 16 * k + 4) (ta, 16 * k + 5) ((rh_z3 + 1) % 8) L9 (by first | assumption | decide | omega | (dsimp only; omega) | simp_all) (by first | assumption | decide | omega | (dsimp only; omega) | simp_all) hc8 hc9) ⟨rfl, rfl⟩ ⟨(Nat.le_of_ble_eq_true rfl), (Nat.le_of_ble_eq_true rfl)⟩ rfl (Nat.le_of_ble_eq_true rfl) dX0_discard_35 rfl ⟨(Nat.le_of_ble_eq_true rfl), (Nat.le_of_ble_eq_true rfl)⟩) 38 rfl 0 (Nat.le_of_ble_eq_true rfl) ?_
    exact g_iret (v := nI L9.length) hC (fun k9 hk9 => ⟨(by rw [hn9]), (by rw [← hn9]; exact hW_z2 _ _ _ _ (Nat.le_refl _) ((show gFr (gT (fun t => tgE ta (16 * k + 4) t ∨ tgE ta (16 * k + 5) t)) M M4 from (gFr.refl.trf hF10 (fun b t e hb hn => (gno (gne_t (gFr.refl b t e hb hn) hD9 (fun q => hn (by rw [q]; exact (show (fun t => tgE ta (16 * k + 4) t ∨ tgE ta (16 * k + 5) t) (ta, 16 * k + 4) by (try simp only [ndT, tgE, gT, tgR, ndT9, ndW, tg0, Prod.mk.injEq, true_and, and_true, cpyT]); first | done | omega | (simp; done))))) (gno (gne_t (gFr.refl b t e hb hn) hA9 (fun q => hn (by rw [q]; exact (show (fun t => tgE ta (16 * k + 4) t ∨ tgE ta (16 * k + 5) t) (ta, 16 * k + 5) by (try simp only [ndT, tgE, gT, tgR, ndT9, ndW, tg0, Prod.mk.injEq, true_and, and_true, cpyT]); first | done | omega | (simp; done))))) gno0))))).mono (fun b t q9 => by obtain ⟨u9, v9⟩ := t; simp only [gT, tgE, ndT9] at q9 ⊢; omega)) (isNd.upR hN_z2 hO_z3 hD_z3 hc8 hc9 (show gFr (gT (fun t => tgE ta (16 * k + 4) t ∨ tgE ta (16 * k + 5) t)) M M4 from (gFr.refl.trf hF10 (fun b t e hb hn => (gno (gne_t (gFr.refl b t e hb hn) hD9 (fun q => hn (by rw [q]; exact (show (fun t => tgE ta (16 * k + 4) t ∨ tgE ta (16 * k + 5) t) (ta, 16 * k + 4) by (try simp only [ndT, tgE, gT, tgR, ndT9, ndW, tg0, Prod.mk.injEq, true_and, and_true, cpyT]); first | done | omega | (simp; done))))) (gno (gne_t (gFr.refl b t e hb hn) hA9 (fun q => hn (by rw [q]; exact (show (fun t => tgE ta (16 * k + 4) t ∨ tgE ta (16 * k + 5) t) (ta, 16 * k + 5) by (try simp only [ndT, tgE, gT, tgR, ndT9, ndW, tg0, Prod.mk.injEq, true_and, and_true, cpyT]); first | done | omega | (simp; done))))) gno0))))) hta.1 (by omega) (by omega) (fun e he => by rw [hR9]; exact List.mem_cons_of_mem _ he)) (relN.disc hR_z2 hR9) (loc_cp (loc.rf.u (by omega) (by omega)) _ (by omega) (by omega))), (gFr.refl.trf hF10 (fun b t e hb hn => (gno (gne_t (gFr.refl b t e hb hn) hD9 (fun q => hn (by rw [q]; exact (show (fun t => t.1 = ta ∨ t.1 = 9) (ta, 16 * k + 4) by (try simp only [ndT, tgE, gT, tgR, ndT9, ndW, tg0, Prod.mk.injEq, true_and, and_true, cpyT]); first | done | omega | (simp; done))))) (gno (gne_t (gFr.refl b t e hb hn) hA9 (fun q => hn (by rw [q]; exact (show (fun t => t.1 = ta ∨ t.1 = 9) (ta, 16 * k + 5) by (try simp only [ndT, tgE, gT, tgR, ndT9, ndW, tg0, Prod.mk.injEq, true_and, and_true, cpyT]); first | done | omega | (simp; done))))) gno0)))), (by first | exact Nat.le_zero.mp hk9 | omega)⟩) dX0_discard_38 (Nat.le_of_ble_eq_true rfl) (Nat.le_of_ble_eq_true rfl)
  · replace c_1 := bId_0 c_1
    exact absurd (nk_in hk) c_1
