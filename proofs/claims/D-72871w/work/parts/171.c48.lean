/-! the public methods: removeAnswer, setAnswer -/
set_option maxRecDepth 100000
theorem isNd.an {M : gM} {G : gG} {ta k of nd : Nat} {x : NS} (h : isNd M G ta k of nd x) : ∃ sa wa rc an er, M nd = some ((ta, 16 * k), .inr (2, ndL G of x.ph x.cu sa wa rc an er x.g)) ∧ isTM M G (ta, 16 * k + 6) (ta, 16 * k + 7) an x.C ∧ aws M x.C x.ad := by
  obtain ⟨sa, wa, rc, an, er, wq, wm, rq, rh, h0, h1, h2, h3, h4, h5, h8, f1, f2, tm, aw, i1, i2, i3⟩ := h
  exact ⟨sa, wa, rc, an, er, h0, tm, aw⟩
theorem isNd.upA {M M' : gM} {G : gG} {ta k of nd sa wa rc an er : Nat} {x : NS} {C : List (Int32 × Nat)} {ad : Nat → Int32 × Int32} (h : isNd M G ta k of nd x) (hc : M nd = some ((ta, 16 * k), .inr (2, ndL G of x.ph x.cu sa wa rc an er x.g))) (hF : gFr (gT (fun t => tgE ta (16 * k + 6) t ∨ tgE ta (16 * k + 7) t)) M M') (hta : 2 ≤ ta) (hT : isTM M' G (ta, 16 * k + 6) (ta, 16 * k + 7) an C) (hA : aws M' C ad) : isNd M' G ta k of nd (x.ph, x.cu, x.g, x.s, x.e, x.W, x.R, C, ad) := by
  obtain ⟨sa1, wa1, rc1, an1, er1, wq, wm, rq1, rh1, h0, g1, g2, g3, g4, g5, g8, f1, f2, tm, aw, i1, i2, i3⟩ := h
  have e := hc.symm.trans h0
  simp only [Option.some.injEq, Prod.mk.injEq, Sum.inr.injEq, true_and] at e
  obtain ⟨rfl, rfl, rfl, rfl, rfl⟩ := ndL_inj e
  refine ⟨sa, wa, rc, an, er, wq, wm, rq1, rh1, hF _ _ _ h0 (by simp [gT, tgE]), hF _ _ _ g1 (by simp [gT, tgE]), hF _ _ _ g2 (by simp [gT, tgE]), hF _ _ _ g3 (by simp [gT, tgE]), hF _ _ _ g4 (by simp [gT, tgE]), hF _ _ _ g5 (by simp [gT, tgE]), hF _ _ _ g8 (by simp [gT, tgE]), f1.fr (hF.mono ?_), f2.fr (hF.mono ?_), hT, hA, i1, i2, i3⟩
  all_goals (intro b t q; obtain ⟨u9, v9⟩ := t; simp only [gT, Prod.mk.injEq, tgE, tg0, ndT] at q ⊢; omega)
theorem relN.rA {f : Nat → Int32} {k q : Nat} {x : NS} (h : relN f k q x) : rA f k x.C x.ad := by
  obtain ⟨V, h⟩ := h; exact h.1.2.2.2.2.1
theorem na_eq {f : Nat → Int32} {k q na : Nat} {x : NS} (h : relN f k q x) (hn : f (256 * k + 25) = nI na) (h4 : na ≤ 4) : x.C.length = na := nn_eq (by have := h.rA.2.1; omega) (by omega) (h.rA.2.2.1.symm.trans hn)
theorem rA.neg {f : Nat → Int32} {k : Nat} {C : List (Int32 × Nat)} {ad : Nat → Int32 × Int32} {id : Int32} (h : rA f k C ad) : ansT f k id C.length 0 < 0 ↔ tget C id = none := by
  rcases rA.ans (id := id) h with ⟨g1, g2⟩ | ⟨p0, m, g1, g2, g3, g4, -⟩
  · exact ⟨fun _ => g1, fun _ => g2⟩
  · exact ⟨fun z => absurd z g4, fun z => by rw [g1] at z; cases z⟩
theorem aws.rem {M : gM} {C : List (Int32 × Nat)} {ad : Nat → Int32 × Int32} {id : Int32} (h : aws M C ad) : aws M (trem C id) ad := fun e he => h e (trem_mem.mp he).1
theorem trem_ln {C : List (Int32 × Nat)} {id : Int32} {p : Nat} (h : srtC C) (hg : tget C id = some p) : (trem C id).length = C.length - 1 := by
  have := trem_len (k := id) C h ⟨_, tget_some hg, rfl⟩
  omega
set_option maxHeartbeats 4000000 in
theorem met_X_removeAnswer_n (l : Launch) (G : gG) (M : gM) (xa : Nat) (sv : Nat) (ms : Nat) (tx : Nat) (le : Int32) (ta : Nat) (of : Nat) (f : Nat → Int32) (q : Nat) (x : Int32) (id : Int32) (hx : ¬ (0 ≤ x ∧ x ≤ 3)) (hM_0 : M xa = some ((8, 0), .inr (0, [.ref of, .ref sv, .ref ms, .ref tx, .int le]))) : Met l yX0_removeAnswer (ws_ yX0_removeAnswer cX0_removeAnswer 4 (some .int)) ({ frames := 2, cells := 0, slots := 0, locals := 45 }) (gPc G [.ref xa, .int x, .int id] M) (gQi G (fun r9 M9 k9 => r9 = (-1) ∧ M9 = M ∧ k9 = 0)) 0 0 (gA G) := by
  refine gMet [(0, .ref xa), (1, .int x), (2, .int id)] (by decide) (Nat.le_of_ble_eq_true rfl) rfl ?_
  intro p e s m below meth c hC
  refine g_iload_n hC dX0_removeAnswer_0 1 rfl 1 rfl ?_
  refine g_calliP (g_S (As := [.int x]) (rest := []) hC msX0_isNode q550 (met_X_isNode l G M x) ⟨rfl, rfl⟩ ⟨(Nat.le_of_ble_eq_true rfl), (Nat.le_of_ble_eq_true rfl)⟩ rfl (Nat.le_of_ble_eq_true rfl) dX0_removeAnswer_1 rfl ⟨(Nat.le_of_ble_eq_true rfl), (Nat.le_of_ble_eq_true rfl)⟩) 4 rfl 0 (Nat.le_of_ble_eq_true rfl) ?_
  refine g_if_ne hC dX0_removeAnswer_4 9 rfl 7 rfl (fun c_1 => ?_) (fun c_1 => ?_)
  · replace c_1 := bId_1 c_1
    exact absurd c_1 hx
  · replace c_1 := bId_0 c_1
    refine g_iconst hC dX0_removeAnswer_7 ki_m1 8 rfl ?_
    exact g_iret (v := -1) hC (fun k9 hk9 => ⟨rfl, rfl, Nat.le_zero.mp hk9⟩) dX0_removeAnswer_8 (Nat.le_of_ble_eq_true rfl) (Nat.le_of_ble_eq_true rfl)
set_option maxHeartbeats 4000000 in
theorem met_X_removeAnswer (l : Launch) (G : gG) (M : gM) (xa : Nat) (sv : Nat) (ms : Nat) (tx : Nat) (le : Int32) (ta : Nat) (of : Nat) (f : Nat → Int32) (q : Nat) (k : Nat) (id : Int32) (na : Nat) (hta : 2 ≤ ta ∧ ta < 9) (hk : k < 4) (hna : f (256 * k + 25) = nI na) (hna4 : na ≤ 4) (hM_0 : M xa = some ((8, 0), .inr (0, [.ref of, .ref sv, .ref ms, .ref tx, .int le]))) (hP_0 : busR M G ta of f q) : Met l yX0_removeAnswer (ws_ yX0_removeAnswer cX0_removeAnswer 4 (some .int)) ({ frames := 6, cells := 1, slots := 1, locals := 137 }) (gPc G [.ref xa, .int (nI k), .int id] M) (gQi G (fun r9 M9 k9 => r9 = (if ansT f k id na 0 < 0 then -5 else nI (na - 1)) ∧ busR M9 G ta of (T_rAns f k id na) q ∧ gFr (gT (fun t => t.1 = ta ∨ t.1 = 9)) M M9 ∧ k9 ≤ 1)) 1 1 (gA G) := by
  refine gMet [(0, .ref xa), (1, .int (nI k)), (2, .int id)] (by decide) (Nat.le_of_ble_eq_true rfl) rfl ?_
  intro p e s m below meth c hC
  refine g_iload_n hC dX0_removeAnswer_0 1 rfl 1 rfl ?_
  refine g_calliP (g_S (As := [.int (nI k)]) (rest := []) hC msX0_isNode q550 (met_X_isNode l G M (nI k)) ⟨rfl, rfl⟩ ⟨(Nat.le_of_ble_eq_true rfl), (Nat.le_of_ble_eq_true rfl)⟩ rfl (Nat.le_of_ble_eq_true rfl) dX0_removeAnswer_1 rfl ⟨(Nat.le_of_ble_eq_true rfl), (Nat.le_of_ble_eq_true rfl)⟩) 4 rfl 0 (Nat.le_of_ble_eq_true rfl) ?_
  refine g_if_ne hC dX0_removeAnswer_4 9 rfl 7 rfl (fun c_1 => ?_) (fun c_1 => ?_)
  · replace c_1 := bId_1 c_1
    obtain ⟨bn_z2, bd_z2, bh_z2, nd_z2, tn_z2, pl_z2, ol_z2, rv_z2, A_z2, x_z2, b0_z2, b1_z2, hA_z2, hN_z2, hR_z2, ht_z2, hl_z2, hp_z2, hW_z2⟩ := busR.nd hP_0 hta (show k < 4 by omega)
    obtain ⟨sa_z29, wa_z29, rc_z29, an_z29, er_z29, hO_z2, hT_z2, hw_z2⟩ := isNd.an hN_z2
    have hnC := na_eq hR_z2 hna hna4
    refine g_aload_n hC dX0_removeAnswer_9 0 rfl gRef_r 10 rfl ?_
    refine g_get (v := .ref of) hC cI0 hM_0 0 (Nat.le_of_ble_eq_true rfl) q517 rfl dX0_removeAnswer_10 13 rfl ?_
    refine g_getN (v := .ref bn_z2) hC cI1 b0_z2 0 (Nat.le_of_ble_eq_true rfl) q470 rfl dX0_removeAnswer_13 16 rfl ?_
    refine g_iload_n hC dX0_removeAnswer_16 1 rfl 17 rfl ?_
    refine g_aldq (r := some nd_z2) hC b1_z2 4 rfl (vp_in_nI (by omega) (by omega)) ((congrArg A_z2 (nI_clamp (by omega))).trans hA_z2) dX0_removeAnswer_17 18 rfl ?_
    refine g_getN (v := .ref an_z29) hC cI2 hO_z2 14 (Nat.le_of_ble_eq_true rfl) q400 rfl dX0_removeAnswer_18 21 rfl ?_
    refine g_astore_n hC dX0_removeAnswer_21 rfl gRef_r (Nat.le_of_ble_eq_true rfl) [(3, .ref an_z29), (0, .ref xa), (1, .int (nI k)), (2, .int id)] rfl 22 rfl ?_
    refine g_aload_n hC dX0_removeAnswer_22 0 rfl gRef_r 23 rfl ?_
    refine g_iload_n hC dX0_removeAnswer_23 3 rfl 24 rfl ?_
    refine g_callq (g_S (As := [.int id]) (rest := [.ref an_z29]) hC msJ11_valueOf q570 (met_valueOf l G M id) ⟨rfl, rfl⟩ ⟨(Nat.le_of_ble_eq_true rfl), (Nat.le_of_ble_eq_true rfl)⟩ rfl (Nat.le_of_ble_eq_true rfl) dX0_removeAnswer_24 rfl ⟨(Nat.le_of_ble_eq_true rfl), (Nat.le_of_ble_eq_true rfl)⟩) 1 (Nat.le_of_ble_eq_true rfl) 1 (Nat.le_of_ble_eq_true rfl) 27 rfl (fun r6 M3 k4 hp5 => ?_)
    obtain ⟨a_7, rfl, hF8, hq9, hk10⟩ := hp5
    refine g_callq (g_V (As := [.ref a_7]) (rest := []) hC mvJ9_remove q1083 (isTM.of hC.K (isTM.fr hT_z2 (gFr.refl.trf hF8 (fun b t e hb hn => gno0)))) (met_TMap_remove l G M3 an_z29 (ta, 16 * k + 6) (ta, 16 * k + 7) x_z2.C a_7 id (by simp) (show ta ≠ 0 by omega) (show ta ≠ 0 by omega) (isTM.fr hT_z2 (gFr.refl.trf hF8 (fun b t e hb hn => gno0))) hq9) ⟨rfl, rfl⟩ ⟨(Nat.le_of_ble_eq_true rfl), (Nat.le_of_ble_eq_true rfl)⟩ rfl (Nat.le_of_ble_eq_true rfl) dX0_removeAnswer_27 rfl ⟨(Nat.le_of_ble_eq_true rfl), (Nat.le_of_ble_eq_true rfl)⟩) 1 (Nat.le_of_ble_eq_true rfl) 1 (Nat.le_of_ble_eq_true rfl) 30 rfl (fun r14 M11 k12 hp13 => ?_)
    obtain ⟨rfl, hpd15, hF16, hk17⟩ := hp13
    refine g_ifnonnull hC dX0_removeAnswer_30 38 rfl 33 rfl (fun x_18 e_19 => ?_) (fun e_19 => ?_)
    · refine g_aload_n hC dX0_removeAnswer_38 0 rfl gRef_r 39 rfl ?_
      refine g_calliP (g_V (As := []) (rest := []) hC mvJ9_size q566 (isTM.of hC.K hpd15) (met_TMap_size l G M11 an_z29 (ta, 16 * k + 6) (ta, 16 * k + 7) (trem x_z2.C id) hpd15) ⟨rfl, rfl⟩ ⟨(Nat.le_of_ble_eq_true rfl), (Nat.le_of_ble_eq_true rfl)⟩ rfl (Nat.le_of_ble_eq_true rfl) dX0_removeAnswer_39 rfl ⟨(Nat.le_of_ble_eq_true rfl), (Nat.le_of_ble_eq_true rfl)⟩) 42 rfl 1 (Nat.le_of_ble_eq_true rfl) ?_
      refine g_topi (y := nI ((trem x_z2.C id).length)) (congrArg nI (show (trem x_z2.C id).length = (trem x_z2.C id).length by omega)) ?_
      exact g_iret (v := nI ((trem x_z2.C id).length)) hC (fun k9 hk9 => ⟨(by rw [← hnC, if_neg (fun q9 => by rw [(rA.neg (relN.rA hR_z2)).mp q9] at e_19; cases e_19), trem_ln (relN.rA hR_z2).1 e_19]), (by rw [← hnC]; exact hW_z2 _ _ _ _ (Nat.le_refl _) ((show gFr (gT (fun t => tgE ta (16 * k + 6) t ∨ tgE ta (16 * k + 7) t)) M M11 from ((gFr.refl.trf hF8 (fun b t e hb hn => gno0)).trans (hF16.mono (fun b t h => by obtain ⟨u9, v9⟩ := t; revert h; (try simp only [ndT, tgE, gT, tgR, ndT9, ndW, tg0, Prod.mk.injEq, true_and, and_true, cpyT]); first | done | omega | (simp; done) | (intro h; simp_all; done))))).mono (fun b t q9 => by obtain ⟨u9, v9⟩ := t; simp only [gT, tgE, ndT9] at q9 ⊢; omega)) (isNd.upA hN_z2 hO_z2 (show gFr (gT (fun t => tgE ta (16 * k + 6) t ∨ tgE ta (16 * k + 7) t)) M M11 from ((gFr.refl.trf hF8 (fun b t e hb hn => gno0)).trans (hF16.mono (fun b t h => by obtain ⟨u9, v9⟩ := t; revert h; (try simp only [ndT, tgE, gT, tgR, ndT9, ndW, tg0, Prod.mk.injEq, true_and, and_true, cpyT]); first | done | omega | (simp; done) | (intro h; simp_all; done))))) hta.1 hpd15 (aws.rem (aws.fr hw_z2 ((gFr.refl.trf hF8 (fun b t e hb hn => gno0)).trans (hF16.mono (fun b t h => by obtain ⟨u9, v9⟩ := t; revert h; (try simp only [ndT, tgE, gT, tgR, ndT9, ndW, tg0, Prod.mk.injEq, true_and, and_true, cpyT]); first | done | omega | (simp; done) | (intro h; simp_all; done))))))) (relN.answ hR_z2 (rA.rem (relN.rA hR_z2)) (rAns_o (relN.rA hR_z2).2.1).1) (rAns_o (relN.rA hR_z2).2.1).2), ((gFr.refl.trf hF8 (fun b t e hb hn => gno0)).trans (hF16.mono (fun b t h => by obtain ⟨u9, v9⟩ := t; revert h; (try simp only [ndT, tgE, gT, tgR, ndT9, ndW, tg0, Prod.mk.injEq, true_and, and_true, cpyT]); first | done | omega | (simp; done) | (intro h; simp_all; done)))), (by first | exact Nat.le_zero.mp hk9 | omega)⟩) dX0_removeAnswer_42 (Nat.le_of_ble_eq_true rfl) (Nat.le_of_ble_eq_true rfl)
    · refine g_bipush hC dX0_removeAnswer_33 kb_m5 35 rfl ?_
      refine g_goto hC dX0_removeAnswer_35 42 rfl ?_
      exact g_iret (v := -5) hC (fun k9 hk9 => ⟨(by rw [← hnC, if_pos ((rA.neg (relN.rA hR_z2)).mpr e_19)]), (by rw [← hnC]; exact hW_z2 _ _ _ _ (Nat.le_refl _) ((show gFr (gT (fun t => tgE ta (16 * k + 6) t ∨ tgE ta (16 * k + 7) t)) M M11 from ((gFr.refl.trf hF8 (fun b t e hb hn => gno0)).trans (hF16.mono (fun b t h => by obtain ⟨u9, v9⟩ := t; revert h; (try simp only [ndT, tgE, gT, tgR, ndT9, ndW, tg0, Prod.mk.injEq, true_and, and_true, cpyT]); first | done | omega | (simp; done) | (intro h; simp_all; done))))).mono (fun b t q9 => by obtain ⟨u9, v9⟩ := t; simp only [gT, tgE, ndT9] at q9 ⊢; omega)) (isNd.upA hN_z2 hO_z2 (show gFr (gT (fun t => tgE ta (16 * k + 6) t ∨ tgE ta (16 * k + 7) t)) M M11 from ((gFr.refl.trf hF8 (fun b t e hb hn => gno0)).trans (hF16.mono (fun b t h => by obtain ⟨u9, v9⟩ := t; revert h; (try simp only [ndT, tgE, gT, tgR, ndT9, ndW, tg0, Prod.mk.injEq, true_and, and_true, cpyT]); first | done | omega | (simp; done) | (intro h; simp_all; done))))) hta.1 hpd15 (aws.rem (aws.fr hw_z2 ((gFr.refl.trf hF8 (fun b t e hb hn => gno0)).trans (hF16.mono (fun b t h => by obtain ⟨u9, v9⟩ := t; revert h; (try simp only [ndT, tgE, gT, tgR, ndT9, ndW, tg0, Prod.mk.injEq, true_and, and_true, cpyT]); first | done | omega | (simp; done) | (intro h; simp_all; done))))))) (relN.answ hR_z2 (rA.rem (relN.rA hR_z2)) (rAns_o (relN.rA hR_z2).2.1).1) (rAns_o (relN.rA hR_z2).2.1).2), ((gFr.refl.trf hF8 (fun b t e hb hn => gno0)).trans (hF16.mono (fun b t h => by obtain ⟨u9, v9⟩ := t; revert h; (try simp only [ndT, tgE, gT, tgR, ndT9, ndW, tg0, Prod.mk.injEq, true_and, and_true, cpyT]); first | done | omega | (simp; done) | (intro h; simp_all; done)))), (by first | exact Nat.le_zero.mp hk9 | omega)⟩) dX0_removeAnswer_42 (Nat.le_of_ble_eq_true rfl) (Nat.le_of_ble_eq_true rfl)
  · replace c_1 := bId_0 c_1
    exact absurd (nk_in hk) c_1
