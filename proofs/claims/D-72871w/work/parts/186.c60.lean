/-! the reader of a text: leaves, and what throws -/
set_option maxRecDepth 100000
set_option maxHeartbeats 4000000 in
theorem met_Th_init (l : Launch) (G : gG) (M : gM) (h : Nat) (t : Nat × Nat)  (hM_0 : M h = some (t, .inr (15, [.null, .null, .null, .null, .null, .int 0, .int 0]))) : Met l yJ24_init_3 (ws_ yJ24_init_3 cJ24_init_3 5 none) ({ frames := 1, cells := 0, slots := 0, locals := 12 }) (gPc G [.ref h, .null, .null, .int 0, .int 0] M) (gQv G (fun M9 k9 => M9 h = some (t, .inr (15, [.null, .null, .null, .null, .null, .int 0, .int 0])) ∧ gFr (gL [h]) M M9 ∧ k9 = 0)) 0 0 (gA G) := by
  refine gMet [(0, .ref h), (1, .null), (2, .null), (3, .int 0), (4, .int 0)] (by decide) (Nat.le_of_ble_eq_true rfl) rfl ?_
  intro p e s m below meth c hC
  refine g_aload_n hC dJ24_init_3_0 0 rfl gRef_r 1 rfl ?_
  refine g_objInit hC q1448 q176 q177 dJ24_init_3_1 (Nat.le_of_ble_eq_true rfl) (Nat.le_of_ble_eq_true rfl) 4 rfl ?_
  refine g_aload_n hC dJ24_init_3_4 0 rfl gRef_r 5 rfl ?_
  refine g_aload_n hC dJ24_init_3_5 0 rfl gRef_r 6 rfl ?_
  refine g_put hC cI15 hM_0 0 (Nat.le_of_ble_eq_true rfl) q1671 rfl rfl rfl (Nat.le_of_ble_eq_true rfl) dJ24_init_3_6 (fs' := [.ref h, .null, .null, .null, .null, .int 0, .int 0]) rfl 9 rfl (fun M1 hU2 => ?_)
  refine g_aload_n hC dJ24_init_3_9 0 rfl gRef_r 10 rfl ?_
  refine g_getsq hC hC.K.2.2.2.1.2.2.2.2.1 q1449 dJ24_init_3_10 13 rfl (fun rs3 => ?_)
  refine g_put hC cI15 hU2.1 1 (Nat.le_of_ble_eq_true rfl) q1672 rfl gq_n gq_f (Nat.le_of_ble_eq_true rfl) dJ24_init_3_13 (fs' := [.ref h, va_rf rs3, .null, .null, .null, .int 0, .int 0]) rfl 16 rfl (fun M4 hU5 => ?_)
  refine g_aload_n hC dJ24_init_3_16 0 rfl gRef_r 17 rfl ?_
  refine g_getsq hC hC.K.2.2.2.1.2.2.2.2.2 q1451 dJ24_init_3_17 20 rfl (fun rs6 => ?_)
  refine g_put hC cI15 hU5.1 2 (Nat.le_of_ble_eq_true rfl) q1673 rfl gq_n gq_f (Nat.le_of_ble_eq_true rfl) dJ24_init_3_20 (fs' := [.ref h, va_rf rs3, va_rf rs6, .null, .null, .int 0, .int 0]) rfl 23 rfl (fun M7 hU8 => ?_)
  refine g_iload hC dJ24_init_3_23 4 rfl 25 rfl ?_
  refine g_if_eq hC dJ24_init_3_25 36 rfl 28 rfl (fun c_9 => ?_) (fun c_9 => ?_)
  · refine g_aload_n hC dJ24_init_3_36 0 rfl gRef_r 37 rfl ?_
    refine g_null hC dJ24_init_3_37 38 rfl ?_
    refine g_put hC cI15 hU8.1 1 (Nat.le_of_ble_eq_true rfl) q1672 rfl rfl rfl (Nat.le_of_ble_eq_true rfl) dJ24_init_3_38 (fs' := [.ref h, .null, va_rf rs6, .null, .null, .int 0, .int 0]) rfl 41 rfl (fun M10 hU11 => ?_)
    refine g_aload_n hC dJ24_init_3_41 0 rfl gRef_r 42 rfl ?_
    refine g_aload_n hC dJ24_init_3_42 1 rfl gRef_n 43 rfl ?_
    refine g_put hC cI15 hU11.1 3 (Nat.le_of_ble_eq_true rfl) q1670 rfl rfl rfl (Nat.le_of_ble_eq_true rfl) dJ24_init_3_43 (fs' := [.ref h, .null, va_rf rs6, .null, .null, .int 0, .int 0]) rfl 46 rfl (fun M12 hU13 => ?_)
    refine g_aload_n hC dJ24_init_3_46 0 rfl gRef_r 47 rfl ?_
    refine g_aload_n hC dJ24_init_3_47 2 rfl gRef_n 48 rfl ?_
    refine g_put hC cI15 hU13.1 0 (Nat.le_of_ble_eq_true rfl) q1671 rfl rfl rfl (Nat.le_of_ble_eq_true rfl) dJ24_init_3_48 (fs' := [.null, .null, va_rf rs6, .null, .null, .int 0, .int 0]) rfl 51 rfl (fun M14 hU15 => ?_)
    refine g_iload_n hC dJ24_init_3_51 3 rfl 52 rfl ?_
    refine g_if_ne hC dJ24_init_3_52 60 rfl 55 rfl (fun c_16 => ?_) (fun c_16 => ?_)
    · exact absurd c_16 (by decide)
    · refine g_aload_n hC dJ24_init_3_55 0 rfl gRef_r 56 rfl ?_
      refine g_null hC dJ24_init_3_56 57 rfl ?_
      refine g_put hC cI15 hU15.1 2 (Nat.le_of_ble_eq_true rfl) q1673 rfl rfl rfl (Nat.le_of_ble_eq_true rfl) dJ24_init_3_57 (fs' := [.null, .null, .null, .null, .null, .int 0, .int 0]) rfl 60 rfl (fun M17 hU18 => ?_)
      exact g_vret hC (fun k9 hk9 => ⟨hU18.1, (((((((gFr.refl.up hU2 hM_0 (by simp)).up hU5 hU2.1 (by simp)).up hU8 hU5.1 (by simp)).up hU11 hU8.1 (by simp)).up hU13 hU11.1 (by simp)).up hU15 hU13.1 (by simp)).up hU18 hU15.1 (by simp)), (by first | exact Nat.le_zero.mp hk9 | omega)⟩) dJ24_init_3_60 (Nat.le_of_ble_eq_true rfl) (Nat.le_of_ble_eq_true rfl)
  · exact absurd c_9 (by decide)
set_option maxHeartbeats 4000000 in
theorem met_Ex_init (l : Launch) (G : gG) (M : gM) (h : Nat) (t : Nat × Nat)  (hM_0 : M h = some (t, .inr (15, [.null, .null, .null, .null, .null, .int 0, .int 0]))) : Met l yJ25_init_3 (ws_ yJ25_init_3 cJ25_init_3 5 none) ({ frames := 2, cells := 0, slots := 0, locals := 36 }) (gPc G [.ref h, .null, .null, .int 0, .int 0] M) (gQv G (fun M9 k9 => M9 h = some (t, .inr (15, [.null, .null, .null, .null, .null, .int 0, .int 0])) ∧ gFr (gL [h]) M M9 ∧ k9 = 0)) 0 0 (gA G) := by
  refine gMet [(0, .ref h), (1, .null), (2, .null), (3, .int 0), (4, .int 0)] (by decide) (Nat.le_of_ble_eq_true rfl) rfl ?_
  intro p e s m below meth c hC
  refine g_aload_n hC dJ25_init_3_0 0 rfl gRef_r 1 rfl ?_
  refine g_aload_n hC dJ25_init_3_1 1 rfl gRef_n 2 rfl ?_
  refine g_aload_n hC dJ25_init_3_2 2 rfl gRef_n 3 rfl ?_
  refine g_iload_n hC dJ25_init_3_3 3 rfl 4 rfl ?_
  refine g_iload hC dJ25_init_3_4 4 rfl 6 rfl ?_
  refine g_callv (g_I (As := [.null, .null, .int 0, .int 0]) (rest := []) hC miJ24_init_3 q2795 (met_Th_init l G M h t hM_0) ⟨rfl, rfl⟩ ⟨(Nat.le_of_ble_eq_true rfl), (Nat.le_of_ble_eq_true rfl)⟩ rfl (Nat.le_of_ble_eq_true rfl) dJ25_init_3_6 rfl ⟨(Nat.le_of_ble_eq_true rfl), (Nat.le_of_ble_eq_true rfl)⟩) 0 (Nat.le_of_ble_eq_true rfl) 0 (Nat.le_of_ble_eq_true rfl) 9 rfl (fun M1 k2 hp3 => ?_)
  obtain ⟨hc5, hF6, hk7⟩ := hp3
  exact g_vret hC (fun k9 hk9 => ⟨hc5, (gFr.refl.trans (hF6.mono (by intro b t hb; simp at hb ⊢; first | done | (rcases hb with rfl | rfl | rfl | rfl <;> simp) | (simp [hb]; done)))), (by first | exact Nat.le_zero.mp hk9 | omega)⟩) dJ25_init_3_9 (Nat.le_of_ble_eq_true rfl) (Nat.le_of_ble_eq_true rfl)
set_option maxHeartbeats 4000000 in
theorem met_Ft_init (l : Launch) (G : gG) (M : gM) (h : Nat) (t : Nat × Nat) (x : Int32)  (hM_0 : M h = some (t, .inr (15, [.null, .null, .null, .null, .null, .int 0, .int 0]))) : Met l yX19_init (ws_ yX19_init cX19_init 2 none) ({ frames := 3, cells := 0, slots := 0, locals := 60 }) (gPc G [.ref h, .int x] M) (gQv G (fun M9 k9 => M9 h = some (t, .inr (15, [.null, .null, .null, .null, .null, .int 0, .int x])) ∧ gFr (gL [h]) M M9 ∧ k9 = 0)) 0 0 (gA G) := by
  refine gMet [(0, .ref h), (1, .int x)] (by decide) (Nat.le_of_ble_eq_true rfl) rfl ?_
  intro p e s m below meth c hC
  refine g_aload_n hC dX19_init_0 0 rfl gRef_r 1 rfl ?_
  refine g_null hC dX19_init_1 2 rfl ?_
  refine g_null hC dX19_init_2 3 rfl ?_
  refine g_iconst hC dX19_init_3 ki_0 4 rfl ?_
  refine g_iconst hC dX19_init_4 ki_0 5 rfl ?_
  refine g_callv (g_I (As := [.null, .null, .int 0, .int 0]) (rest := []) hC miJ25_init_3 q2792 (met_Ex_init l G M h t hM_0) ⟨rfl, rfl⟩ ⟨(Nat.le_of_ble_eq_true rfl), (Nat.le_of_ble_eq_true rfl)⟩ rfl (Nat.le_of_ble_eq_true rfl) dX19_init_5 rfl ⟨(Nat.le_of_ble_eq_true rfl), (Nat.le_of_ble_eq_true rfl)⟩) 0 (Nat.le_of_ble_eq_true rfl) 0 (Nat.le_of_ble_eq_true rfl) 8 rfl (fun M1 k2 hp3 => ?_)
  obtain ⟨hc5, hF6, hk7⟩ := hp3
  refine g_aload_n hC dX19_init_8 0 rfl gRef_r 9 rfl ?_
  refine g_iload_n hC dX19_init_9 1 rfl 10 rfl ?_
  refine g_putF hC cI15 hc5 6 (Nat.le_of_ble_eq_true rfl) q2798 rfl rfl rfl rfl (Nat.le_of_ble_eq_true rfl) dX19_init_10 (fs' := [.null, .null, .null, .null, .null, .int 0, .int x]) rfl 13 rfl (fun M8 hU9 => ?_)
  exact g_vret hC (fun k9 hk9 => ⟨hU9.1, ((gFr.refl.trans (hF6.mono (by intro b t hb; simp at hb ⊢; first | done | (rcases hb with rfl | rfl | rfl | rfl <;> simp) | (simp [hb]; done)))).up hU9 hc5 (by simp)), (by first | exact Nat.le_zero.mp hk9 | omega)⟩) dX19_init_13 (Nat.le_of_ble_eq_true rfl) (Nat.le_of_ble_eq_true rfl)
set_option maxHeartbeats 4000000 in
theorem met_Rd_init (l : Launch) (G : gG) (M : gM) (rd : Nat) (xa : Nat)  (hM_0 : M rd = some ((7, 0), .inr (14, [.int 0, .null]))) : Met l yX18_init (ws_ yX18_init cX18_init 2 none) ({ frames := 1, cells := 0, slots := 0, locals := 12 }) (gPc G [.ref rd, .ref xa] M) (gQv G (fun M9 k9 => M9 rd = some ((7, 0), .inr (14, [.int 0, .ref xa])) ∧ gFr (gL [rd]) M M9 ∧ k9 = 0)) 0 0 (gA G) := by
  refine gMet [(0, .ref rd), (1, .ref xa)] (by decide) (Nat.le_of_ble_eq_true rfl) rfl ?_
  intro p e s m below meth c hC
  refine g_aload_n hC dX18_init_0 0 rfl gRef_r 1 rfl ?_
  refine g_aload_n hC dX18_init_1 1 rfl gRef_r 2 rfl ?_
  refine g_putF hC cI14 hM_0 1 (Nat.le_of_ble_eq_true rfl) q2734 rfl rfl rfl rfl (Nat.le_of_ble_eq_true rfl) dX18_init_2 (fs' := [.int 0, .ref xa]) rfl 5 rfl (fun M1 hU2 => ?_)
  refine g_aload_n hC dX18_init_5 0 rfl gRef_r 6 rfl ?_
  refine g_objInit hC q2732 q176 q177 dX18_init_6 (Nat.le_of_ble_eq_true rfl) (Nat.le_of_ble_eq_true rfl) 9 rfl ?_
  exact g_vret hC (fun k9 hk9 => ⟨hU2.1, (gFr.refl.up hU2 hM_0 (by simp)), (by first | exact Nat.le_zero.mp hk9 | omega)⟩) dX18_init_9 (Nat.le_of_ble_eq_true rfl) (Nat.le_of_ble_eq_true rfl)
set_option maxHeartbeats 4000000 in
theorem met_Rd_here (l : Launch) (G : gG) (M : gM) (rd : Nat) (xa : Nat) (of : Nat) (sv : Nat) (ms : Nat) (tx : Nat) (lc : Nat) (txf : Nat → Int32) (pq : Nat) (hlc : lc ≤ 120) (hpq : pq ≤ 200) (htx : ∀ q, 0 ≤ txf q ∧ txf q ≤ 127) (hM_0 : M rd = some ((7, 0), .inr (14, [.int (nI pq), .ref xa]))) (hM_1 : M xa = some ((8, 0), .inr (0, [.ref of, .ref sv, .ref ms, .ref tx, .int (nI lc)]))) (hM_2 : M tx = some ((8, 5), .inl (gcs G 1, 120, .inl txf))) : Met l yX18_here (ws_ yX18_here cX18_here 1 (some .int)) ({ frames := 0, cells := 0, slots := 0, locals := 0 }) (gPc G [.ref rd] M) (gQi G (fun r9 M9 k9 => r9 = (hereT txf lc pq) ∧ M9 = M ∧ k9 = 0)) 0 0 (gA G) := by
  refine gMet [(0, .ref rd)] (by decide) (Nat.le_of_ble_eq_true rfl) rfl ?_
  intro p e s m below meth c hC
  refine g_aload_n hC dX18_here_0 0 rfl gRef_r 1 rfl ?_
  refine g_get (v := .int (nI pq)) hC cI14 hM_0 0 (Nat.le_of_ble_eq_true rfl) q2733 rfl dX18_here_1 4 rfl ?_
  refine g_aload_n hC dX18_here_4 0 rfl gRef_r 5 rfl ?_
  refine g_get (v := .ref xa) hC cI14 hM_0 1 (Nat.le_of_ble_eq_true rfl) q2734 rfl dX18_here_5 8 rfl ?_
  refine g_getN (v := .int (nI lc)) hC cI0 hM_1 4 (Nat.le_of_ble_eq_true rfl) q522 rfl dX18_here_8 11 rfl ?_
  refine g_icmp_ge hC dX18_here_11 29 rfl 14 rfl (fun c_1 => ?_) (fun c_1 => ?_)
  · replace c_1 : lc ≤ pq := nn_le (by omega) (by omega) c_1
    refine g_iconst hC dX18_here_29 ki_m1 30 rfl ?_
    exact g_iret (v := -1) hC (fun k9 hk9 => ⟨(by simp only [hereT]; split <;> first | rfl | omega), rfl, Nat.le_zero.mp hk9⟩) dX18_here_30 (Nat.le_of_ble_eq_true rfl) (Nat.le_of_ble_eq_true rfl)
  · replace c_1 : pq < lc := nn_nle (by omega) (by omega) c_1
    refine g_aload_n hC dX18_here_14 0 rfl gRef_r 15 rfl ?_
    refine g_get (v := .ref xa) hC cI14 hM_0 1 (Nat.le_of_ble_eq_true rfl) q2734 rfl dX18_here_15 18 rfl ?_
    refine g_getN (v := .ref tx) hC cI0 hM_1 3 (Nat.le_of_ble_eq_true rfl) q520 rfl dX18_here_18 21 rfl ?_
    refine g_aload_n hC dX18_here_21 0 rfl gRef_r 22 rfl ?_
    refine g_get (v := .int (nI pq)) hC cI14 hM_0 0 (Nat.le_of_ble_eq_true rfl) q2733 rfl dX18_here_22 25 rfl ?_
    refine g_bald (v := txf pq) hC hM_2 1 rfl (vp_in_nI (by omega) (by omega)) ((congrArg txf (nI_clamp (by omega))).trans rfl) dX18_here_25 26 rfl ?_
    refine g_goto hC dX18_here_26 30 rfl ?_
    exact g_iret (v := txf pq) hC (fun k9 hk9 => ⟨(by simp only [hereT]; split <;> first | rfl | omega), rfl, Nat.le_zero.mp hk9⟩) dX18_here_30 (Nat.le_of_ble_eq_true rfl) (Nat.le_of_ble_eq_true rfl)
set_option maxHeartbeats 4000000 in
theorem met_Rd_expect (l : Launch) (G : gG) (M : gM) (rd : Nat) (xa : Nat) (of : Nat) (sv : Nat) (ms : Nat) (tx : Nat) (lc : Nat) (txf : Nat → Int32) (pq : Nat) (v : Int32) (hlc : lc ≤ 120) (hpq : pq ≤ 200) (htx : ∀ q, 0 ≤ txf q ∧ txf q ≤ 127) (hv : ¬ v = 0) (hM_0 : M rd = some ((7, 0), .inr (14, [.int (nI pq), .ref xa]))) (hM_1 : M xa = some ((8, 0), .inr (0, [.ref of, .ref sv, .ref ms, .ref tx, .int (nI lc)]))) (hM_2 : M tx = some ((8, 5), .inl (gcs G 1, 120, .inl txf))) : Met l yX18_expect (ws_ yX18_expect cX18_expect 2 none) ({ frames := 0, cells := 0, slots := 0, locals := 0 }) (gPc G [.ref rd, .int v] M) (gQv G (fun M9 k9 => M9 = M ∧ k9 = 0)) 0 0 (gA G) := by
  refine gMet [(0, .ref rd), (1, .int v)] (by decide) (Nat.le_of_ble_eq_true rfl) rfl ?_
  intro p e s m below meth c hC
  refine g_iload_n hC dX18_expect_0 1 rfl 1 rfl ?_
  refine g_if_ne hC dX18_expect_1 16 rfl 4 rfl (fun c_1 => ?_) (fun c_1 => ?_)
  · exact g_vret hC (fun k9 hk9 => ⟨rfl, Nat.le_zero.mp hk9⟩) dX18_expect_16 (Nat.le_of_ble_eq_true rfl) (Nat.le_of_ble_eq_true rfl)
  · exact absurd c_1 hv
set_option maxHeartbeats 4000000 in
theorem met_Rd_expect_x (l : Launch) (G : gG) (M : gM) (rd : Nat) (xa : Nat) (of : Nat) (sv : Nat) (ms : Nat) (tx : Nat) (lc : Nat) (txf : Nat → Int32) (pq : Nat) (v : Int32) (hlc : lc ≤ 120) (hpq : pq ≤ 200) (htx : ∀ q, 0 ≤ txf q ∧ txf q ≤ 127) (hv : v = 0) (hM_0 : M rd = some ((7, 0), .inr (14, [.int (nI pq), .ref xa]))) (hM_1 : M xa = some ((8, 0), .inr (0, [.ref of, .ref sv, .ref ms, .ref tx, .int (nI lc)]))) (hM_2 : M tx = some ((8, 5), .inl (gcs G 1, 120, .inl txf))) : MetX l yX18_expect (ws_ yX18_expect cX18_expect 2 none) ({ frames := 4, cells := 1, slots := 7, locals := 81 }) (gPc G [.ref rd, .int v] M) G (fun q9 M9 k9 => M9 q9 = some ((7, 1), .inr (15, [.null, .null, .null, .null, .null, .int 0, .int (nI pq)])) ∧ gFr (gT (fun t => t.1 = 7)) M M9 ∧ k9 ≤ 1) 1 7 := by
  refine gMetX [(0, .ref rd), (1, .int v)] (by decide) (Nat.le_of_ble_eq_true rfl) rfl ?_
  intro p e s m below meth c hC hTB
  refine g_iload_n hC dX18_expect_0 1 rfl 1 rfl ?_
  refine g_if_ne hC dX18_expect_1 16 rfl 4 rfl (fun c_1 => ?_) (fun c_1 => ?_)
  · exact absurd hv c_1
  · refine g_new hC cI15 q2780 q2781 q168 df15 (7, 1) (Nat.le_of_ble_eq_true rfl) (Nat.le_of_ble_eq_true rfl) 1 (Nat.le_of_ble_eq_true rfl) 7 (Nat.le_of_ble_eq_true rfl) dX18_expect_4 7 rfl (fun a2 M3 hN4 => ?_)
    refine g_dup hC dX18_expect_7 rfl 8 rfl ?_
    refine g_aload_n hC dX18_expect_8 0 rfl gRef_r 9 rfl ?_
    refine g_get (v := .int (nI pq)) hC cI14 (hN4.n hM_0) 0 (Nat.le_of_ble_eq_true rfl) q2733 rfl dX18_expect_9 12 rfl ?_
    refine g_callv (g_I (As := [.int (nI pq)]) (rest := [.ref a2]) hC miX19_init q2789 (met_Ft_init l G M3 a2 (7, 1) (nI pq) hN4.2.1) ⟨rfl, rfl⟩ ⟨(Nat.le_of_ble_eq_true rfl), (Nat.le_of_ble_eq_true rfl)⟩ rfl (Nat.le_of_ble_eq_true rfl) dX18_expect_12 rfl ⟨(Nat.le_of_ble_eq_true rfl), (Nat.le_of_ble_eq_true rfl)⟩) 1 (Nat.le_of_ble_eq_true rfl) 7 (Nat.le_of_ble_eq_true rfl) 15 rfl (fun M5 k6 hp7 => ?_)
    obtain ⟨hc9, hF10, hk11⟩ := hp7
    exact g_athrow hC hTB hc9 (fun k9 hk9 => ⟨hc9, ((gFr.refl.nw hN4).trf hF10 (fun b t e hb hn => (gno (hN4.ne (gFr.refl b t e hb hn)) gno0))), (by omega)⟩) dX18_expect_15 (Nat.le_of_ble_eq_true rfl) (Nat.le_of_ble_eq_true rfl)
set_option maxHeartbeats 4000000 in
theorem met_Rd_sign (l : Launch) (G : gG) (M : gM) (rd : Nat) (xa : Nat) (of : Nat) (sv : Nat) (ms : Nat) (tx : Nat) (lc : Nat) (txf : Nat → Int32) (pq : Nat) (cc : Nat) (hlc : lc ≤ 120) (hpq : pq ≤ 200) (htx : ∀ q, 0 ≤ txf q ∧ txf q ≤ 127) (hcc : cc ≤ 127) (hs : hereT txf lc pq = nI cc) (hM_0 : M rd = some ((7, 0), .inr (14, [.int (nI pq), .ref xa]))) (hM_1 : M xa = some ((8, 0), .inr (0, [.ref of, .ref sv, .ref ms, .ref tx, .int (nI lc)]))) (hM_2 : M tx = some ((8, 5), .inl (gcs G 1, 120, .inl txf))) : Met l yX18_sign (ws_ yX18_sign cX18_sign 2 none) ({ frames := 1, cells := 0, slots := 0, locals := 21 }) (gPc G [.ref rd, .int (nI cc)] M) (gQv G (fun M9 k9 => M9 rd = some ((7, 0), .inr (14, [.int (nI (pq + 1)), .ref xa])) ∧ gFr (gL [rd]) M M9 ∧ k9 = 0)) 0 0 (gA G) := by
  refine gMet [(0, .ref rd), (1, .int (nI cc))] (by decide) (Nat.le_of_ble_eq_true rfl) rfl ?_
  intro p e s m below meth c hC
  refine g_aload_n hC dX18_sign_0 0 rfl gRef_r 1 rfl ?_
  refine g_aload_n hC dX18_sign_1 0 rfl gRef_r 2 rfl ?_
  refine g_calliP (g_V (As := []) (rest := [.ref rd]) hC mvX18_here q2770 (gOf.of hC.K cI14 hM_0) (met_Rd_here l G M rd xa of sv ms tx lc txf pq hlc hpq htx hM_0 hM_1 hM_2) ⟨rfl, rfl⟩ ⟨(Nat.le_of_ble_eq_true rfl), (Nat.le_of_ble_eq_true rfl)⟩ rfl (Nat.le_of_ble_eq_true rfl) dX18_sign_2 rfl ⟨(Nat.le_of_ble_eq_true rfl), (Nat.le_of_ble_eq_true rfl)⟩) 5 rfl 0 (Nat.le_of_ble_eq_true rfl) ?_
  refine g_topi (y := nI cc) hs ?_
  refine g_iload_n hC dX18_sign_5 1 rfl 6 rfl ?_
  refine g_icmp_ne hC dX18_sign_6 13 rfl 9 rfl (fun c_1 => ?_) (fun c_1 => ?_)
  · exact absurd (show ¬ cc = cc from nn_neq (by omega) (by omega) c_1) (by omega)
  · replace c_1 : cc = cc := nn_eq (by omega) (by omega) c_1
    refine g_iconst hC dX18_sign_9 ki_1 10 rfl ?_
    refine g_goto hC dX18_sign_10 14 rfl ?_
    refine g_callvP (g_V (As := [.int 1]) (rest := []) hC mvX18_expect q2776 (gOf.of hC.K cI14 hM_0) (met_Rd_expect l G M rd xa of sv ms tx lc txf pq 1 hlc hpq htx (by decide) hM_0 hM_1 hM_2) ⟨rfl, rfl⟩ ⟨(Nat.le_of_ble_eq_true rfl), (Nat.le_of_ble_eq_true rfl)⟩ rfl (Nat.le_of_ble_eq_true rfl) dX18_sign_14 rfl ⟨(Nat.le_of_ble_eq_true rfl), (Nat.le_of_ble_eq_true rfl)⟩) 17 rfl 0 (Nat.le_of_ble_eq_true rfl) ?_
    refine g_aload_n hC dX18_sign_17 0 rfl gRef_r 18 rfl ?_
    refine g_dup hC dX18_sign_18 rfl 19 rfl ?_
    refine g_get (v := .int (nI pq)) hC cI14 hM_0 0 (Nat.le_of_ble_eq_true rfl) q2733 rfl dX18_sign_19 22 rfl ?_
    refine g_iconst hC dX18_sign_22 ki_1 23 rfl ?_
    refine g_iadd hC dX18_sign_23 24 rfl ?_
    refine g_topi (y := nI (pq + 1)) (nI_a (a := pq) (b := 1) (c := (pq + 1)) (by omega)) ?_
    refine g_put hC cI14 hM_0 0 (Nat.le_of_ble_eq_true rfl) q2733 rfl rfl rfl (Nat.le_of_ble_eq_true rfl) dX18_sign_24 (fs' := [.int (nI (pq + 1)), .ref xa]) rfl 27 rfl (fun M2 hU3 => ?_)
    exact g_vret hC (fun k9 hk9 => ⟨hU3.1, (gFr.refl.up hU3 hM_0 (by simp)), (by first | exact Nat.le_zero.mp hk9 | omega)⟩) dX18_sign_27 (Nat.le_of_ble_eq_true rfl) (Nat.le_of_ble_eq_true rfl)
set_option maxHeartbeats 4000000 in
theorem met_Rd_sign_x (l : Launch) (G : gG) (M : gM) (rd : Nat) (xa : Nat) (of : Nat) (sv : Nat) (ms : Nat) (tx : Nat) (lc : Nat) (txf : Nat → Int32) (pq : Nat) (cc : Nat) (hlc : lc ≤ 120) (hpq : pq ≤ 200) (htx : ∀ q, 0 ≤ txf q ∧ txf q ≤ 127) (hcc : cc ≤ 127) (hs : ¬ hereT txf lc pq = nI cc) (hM_0 : M rd = some ((7, 0), .inr (14, [.int (nI pq), .ref xa]))) (hM_1 : M xa = some ((8, 0), .inr (0, [.ref of, .ref sv, .ref ms, .ref tx, .int (nI lc)]))) (hM_2 : M tx = some ((8, 5), .inl (gcs G 1, 120, .inl txf))) : MetX l yX18_sign (ws_ yX18_sign cX18_sign 2 none) ({ frames := 5, cells := 1, slots := 7, locals := 102 }) (gPc G [.ref rd, .int (nI cc)] M) G (fun q9 M9 k9 => M9 q9 = some ((7, 1), .inr (15, [.null, .null, .null, .null, .null, .int 0, .int (nI pq)])) ∧ gFr (gT (fun t => t.1 = 7)) M M9 ∧ k9 ≤ 1) 1 7 := by
  refine gMetX [(0, .ref rd), (1, .int (nI cc))] (by decide) (Nat.le_of_ble_eq_true rfl) rfl ?_
  intro p e s m below meth c hC hTB
  refine g_aload_n hC dX18_sign_0 0 rfl gRef_r 1 rfl ?_
  refine g_aload_n hC dX18_sign_1 0 rfl gRef_r 2 rfl ?_
  refine g_calliP (g_V (As := []) (rest := [.ref rd]) hC mvX18_here q2770 (gOf.of hC.K cI14 hM_0) (met_Rd_here l G M rd xa of sv ms tx lc txf pq hlc hpq htx hM_0 hM_1 hM_2) ⟨rfl, rfl⟩ ⟨(Nat.le_of_ble_eq_true rfl), (Nat.le_of_ble_eq_true rfl)⟩ rfl (Nat.le_of_ble_eq_true rfl) dX18_sign_2 rfl ⟨(Nat.le_of_ble_eq_true rfl), (Nat.le_of_ble_eq_true rfl)⟩) 5 rfl 0 (Nat.le_of_ble_eq_true rfl) ?_
  refine g_iload_n hC dX18_sign_5 1 rfl 6 rfl ?_
  refine g_icmp_ne hC dX18_sign_6 13 rfl 9 rfl (fun c_1 => ?_) (fun c_1 => ?_)
  · refine g_iconst hC dX18_sign_13 ki_0 14 rfl ?_
    exact g_callX hC hTB (g_VX (As := [.int 0]) (rest := []) hC mvX18_expect q2776 (gOf.of hC.K cI14 hM_0) (met_Rd_expect_x l G M rd xa of sv ms tx lc txf pq 0 hlc hpq htx rfl hM_0 hM_1 hM_2) ⟨rfl, rfl⟩ ⟨(Nat.le_of_ble_eq_true rfl), (Nat.le_of_ble_eq_true rfl)⟩ rfl (Nat.le_of_ble_eq_true rfl) dX18_sign_14 rfl ⟨(Nat.le_of_ble_eq_true rfl), (Nat.le_of_ble_eq_true rfl)⟩) (Nat.le_of_ble_eq_true rfl) (Nat.le_of_ble_eq_true rfl) (fun q2 M3 k4 k9 hp5 hk9 => by obtain ⟨hc6, hF7, hk8⟩ := hp5; exact ⟨hc6, (gFr.refl.trans (hF7.mono (fun b t h => by obtain ⟨u9, v9⟩ := t; revert h; (try simp only [ndT, tgE, gT, tgR, ndT9, ndW, tg0, Prod.mk.injEq, true_and, and_true, cpyT, msT]); first | done | omega | (simp; done) | (intro h; simp_all; done)))), (by omega)⟩)
  · exact absurd c_1 hs
theorem here_r {tx : Nat → Int32} {lc q : Nat} (h : ∀ q, 0 ≤ tx q ∧ tx q ≤ 127) : -1 ≤ hereT tx lc q ∧ hereT tx lc q ≤ 127 := by
  unfold hereT
  split
  · exact ⟨by decide, by decide⟩
  · exact ⟨Int32.le_trans (by decide) (h q).1, (h q).2⟩
theorem dig_i {x : Int32} {mo : Nat} (hx : -1 ≤ x ∧ x ≤ 127) (hm : mo ≤ 9) : ((48 : Int64) ≤ Int32.toInt64 x ∧ Int32.toInt64 x ≤ Int32.toInt64 (nI (48 + mo))) ↔ (0 ≤ x - 48 ∧ x - 48 ≤ nI mo) := by
  obtain ⟨h1, h2⟩ := hx
  have e1 : (nI (48 + mo)).toInt = 48 + mo := nI_toInt (by omega)
  have e2 : (nI mo).toInt = mo := nI_toInt (by omega)
  have h1' : (-1 : Int) ≤ x.toInt := by have := Int32.le_iff_toInt_le.mp h1; simpa using this
  have h2' : x.toInt ≤ (127 : Int) := by have := Int32.le_iff_toInt_le.mp h2; simpa using this
  have e3 : (x - 48).toInt = x.toInt - 48 := by
    rw [Int32.toInt_sub]
    show (x.toInt - (48 : Int32).toInt).bmod (2 ^ 32) = _
    rw [show (48 : Int32).toInt = 48 from rfl, Int.bmod_eq_of_le (by omega) (by omega)]
  simp only [Int64.le_iff_toInt_le, Int32.le_iff_toInt_le, Int32.toInt_toInt64, e1, e2, e3]
  rw [show (48 : Int64).toInt = 48 from rfl, show (0 : Int32).toInt = 0 from rfl]
  omega
theorem hex_i {x : Int32} {mo : Nat} (hm : mo ≤ 15) : ((0 : Int64) ≤ Int32.toInt64 x ∧ Int32.toInt64 x ≤ Int32.toInt64 (nI mo)) ↔ (0 ≤ x ∧ x ≤ nI mo) := in64
theorem here_in {tx : Nat → Int32} {lc q mo : Nat} (hm : mo ≤ 9) (h : 0 ≤ hereT tx lc q - 48 ∧ hereT tx lc q - 48 ≤ nI mo) : q < lc ∧ hereT tx lc q = tx q := by
  unfold hereT at *
  split at h
  · exact absurd h.1 (by decide)
  · rename_i h1; rw [if_neg h1]; exact ⟨by omega, rfl⟩
set_option maxHeartbeats 4000000 in
theorem met_Rd_digit (l : Launch) (G : gG) (M : gM) (rd : Nat) (xa : Nat) (of : Nat) (sv : Nat) (ms : Nat) (tx : Nat) (lc : Nat) (txf : Nat → Int32) (pq : Nat) (mo : Nat) (hlc : lc ≤ 120) (hpq : pq ≤ 200) (htx : ∀ q, 0 ≤ txf q ∧ txf q ≤ 127) (hmo : mo ≤ 9) (hd : (0 ≤ hereT txf lc pq - 48 ∧ hereT txf lc pq - 48 ≤ nI mo)) (hM_0 : M rd = some ((7, 0), .inr (14, [.int (nI pq), .ref xa]))) (hM_1 : M xa = some ((8, 0), .inr (0, [.ref of, .ref sv, .ref ms, .ref tx, .int (nI lc)]))) (hM_2 : M tx = some ((8, 5), .inl (gcs G 1, 120, .inl txf))) : Met l yX18_digit (ws_ yX18_digit cX18_digit 2 (some .int)) ({ frames := 1, cells := 0, slots := 0, locals := 25 }) (gPc G [.ref rd, .int (nI mo)] M) (gQi G (fun r9 M9 k9 => r9 = (hereT txf lc pq - 48) ∧ M9 rd = some ((7, 0), .inr (14, [.int (nI (pq + 1)), .ref xa])) ∧ gFr (gL [rd]) M M9 ∧ k9 = 0)) 0 0 (gA G) := by
  refine gMet [(0, .ref rd), (1, .int (nI mo))] (by decide) (Nat.le_of_ble_eq_true rfl) rfl ?_
  intro p e s m below meth c hC
  refine g_aload_n hC dX18_digit_0 0 rfl gRef_r 1 rfl ?_
  refine g_aload_n hC dX18_digit_1 0 rfl gRef_r 2 rfl ?_
  refine g_calliP (g_V (As := []) (rest := [.ref rd]) hC mvX18_here q2770 (gOf.of hC.K cI14 hM_0) (met_Rd_here l G M rd xa of sv ms tx lc txf pq hlc hpq htx hM_0 hM_1 hM_2) ⟨rfl, rfl⟩ ⟨(Nat.le_of_ble_eq_true rfl), (Nat.le_of_ble_eq_true rfl)⟩ rfl (Nat.le_of_ble_eq_true rfl) dX18_digit_2 rfl ⟨(Nat.le_of_ble_eq_true rfl), (Nat.le_of_ble_eq_true rfl)⟩) 5 rfl 0 (Nat.le_of_ble_eq_true rfl) ?_
  refine g_i2l hC dX18_digit_5 6 rfl ?_
  refine g_ldc2 hC q2774 dX18_digit_6 9 rfl ?_
  refine g_bipush hC dX18_digit_9 kb_48 11 rfl ?_
  refine g_iload_n hC dX18_digit_11 1 rfl 12 rfl ?_
  refine g_iadd hC dX18_digit_12 13 rfl ?_
  refine g_topi (y := nI (mo + 48)) (nI_a (a := 48) (b := mo) (c := (mo + 48)) (by omega)) ?_
  refine g_i2l hC dX18_digit_13 14 rfl ?_
  refine g_calliP (g_SN (As := [.long (Int32.toInt64 (hereT txf lc pq)), .long 48, .long (Int32.toInt64 (nI (mo + 48)))]) (rest := [.ref rd]) hC msX0_isIn q2775 (met_isIn l G M (Int32.toInt64 (hereT txf lc pq)) 48 (Int32.toInt64 (nI (mo + 48)))) ⟨rfl, rfl⟩ ⟨(Nat.le_of_ble_eq_true rfl), (Nat.le_of_ble_eq_true rfl)⟩ rfl (Nat.le_of_ble_eq_true rfl) dX18_digit_14 rfl ⟨(Nat.le_of_ble_eq_true rfl), (Nat.le_of_ble_eq_true rfl)⟩) 17 rfl 0 (Nat.le_of_ble_eq_true rfl) ?_
  refine g_callvP (g_V (As := [.int (bI (decide (48 ≤ (Int32.toInt64 (hereT txf lc pq)) ∧ (Int32.toInt64 (hereT txf lc pq)) ≤ (Int32.toInt64 (nI (mo + 48))))))]) (rest := []) hC mvX18_expect q2776 (gOf.of hC.K cI14 hM_0) (met_Rd_expect l G M rd xa of sv ms tx lc txf pq (bI (decide (48 ≤ (Int32.toInt64 (hereT txf lc pq)) ∧ (Int32.toInt64 (hereT txf lc pq)) ≤ (Int32.toInt64 (nI (mo + 48)))))) hlc hpq htx (by rw [decide_eq_true ((dig_i (here_r htx) hmo).mpr hd)]; decide) hM_0 hM_1 hM_2) ⟨rfl, rfl⟩ ⟨(Nat.le_of_ble_eq_true rfl), (Nat.le_of_ble_eq_true rfl)⟩ rfl (Nat.le_of_ble_eq_true rfl) dX18_digit_17 rfl ⟨(Nat.le_of_ble_eq_true rfl), (Nat.le_of_ble_eq_true rfl)⟩) 20 rfl 0 (Nat.le_of_ble_eq_true rfl) ?_
  obtain ⟨hq9, he9⟩ := here_in hmo hd
  refine g_aload_n hC dX18_digit_20 0 rfl gRef_r 21 rfl ?_
  refine g_dup hC dX18_digit_21 rfl 22 rfl ?_
  refine g_get (v := .int (nI pq)) hC cI14 hM_0 0 (Nat.le_of_ble_eq_true rfl) q2733 rfl dX18_digit_22 25 rfl ?_
  refine g_iconst hC dX18_digit_25 ki_1 26 rfl ?_
  refine g_iadd hC dX18_digit_26 27 rfl ?_
  refine g_topi (y := nI (pq + 1)) (nI_a (a := pq) (b := 1) (c := (pq + 1)) (by omega)) ?_
  refine g_put hC cI14 hM_0 0 (Nat.le_of_ble_eq_true rfl) q2733 rfl rfl rfl (Nat.le_of_ble_eq_true rfl) dX18_digit_27 (fs' := [.int (nI (pq + 1)), .ref xa]) rfl 30 rfl (fun M1 hU2 => ?_)
  refine g_aload_n hC dX18_digit_30 0 rfl gRef_r 31 rfl ?_
  refine g_get (v := .ref xa) hC cI14 hU2.1 1 (Nat.le_of_ble_eq_true rfl) q2734 rfl dX18_digit_31 34 rfl ?_
  refine g_getN (v := .ref tx) hC cI0 (hU2.n (gne_c hM_1 hM_0 (by decide)) hM_1) 3 (Nat.le_of_ble_eq_true rfl) q520 rfl dX18_digit_34 37 rfl ?_
  refine g_aload_n hC dX18_digit_37 0 rfl gRef_r 38 rfl ?_
  refine g_get (v := .int (nI (pq + 1))) hC cI14 hU2.1 0 (Nat.le_of_ble_eq_true rfl) q2733 rfl dX18_digit_38 41 rfl ?_
  refine g_iconst hC dX18_digit_41 ki_1 42 rfl ?_
  refine g_isub hC dX18_digit_42 43 rfl ?_
  refine g_topi (y := nI pq) (nI_s (a := (pq + 1)) (b := 1) (c := pq) (by omega)) ?_
  refine g_bald (v := txf pq) hC (hU2.n (gne_ao hM_2 hM_0) hM_2) 1 rfl (vp_in_nI (by omega) (by omega)) ((congrArg txf (nI_clamp (by omega))).trans rfl) dX18_digit_43 44 rfl ?_
  refine g_bipush hC dX18_digit_44 kb_48 46 rfl ?_
  refine g_isub hC dX18_digit_46 47 rfl ?_
  exact g_iret (v := (txf pq) - 48) hC (fun k9 hk9 => ⟨(by rw [he9]), hU2.1, (gFr.refl.up hU2 hM_0 (by simp)), (by first | exact Nat.le_zero.mp hk9 | omega)⟩) dX18_digit_47 (Nat.le_of_ble_eq_true rfl) (Nat.le_of_ble_eq_true rfl)
set_option maxHeartbeats 4000000 in
theorem met_Rd_digit_x (l : Launch) (G : gG) (M : gM) (rd : Nat) (xa : Nat) (of : Nat) (sv : Nat) (ms : Nat) (tx : Nat) (lc : Nat) (txf : Nat → Int32) (pq : Nat) (mo : Nat) (hlc : lc ≤ 120) (hpq : pq ≤ 200) (htx : ∀ q, 0 ≤ txf q ∧ txf q ≤ 127) (hmo : mo ≤ 9) (hd : ¬ (0 ≤ hereT txf lc pq - 48 ∧ hereT txf lc pq - 48 ≤ nI mo)) (hM_0 : M rd = some ((7, 0), .inr (14, [.int (nI pq), .ref xa]))) (hM_1 : M xa = some ((8, 0), .inr (0, [.ref of, .ref sv, .ref ms, .ref tx, .int (nI lc)]))) (hM_2 : M tx = some ((8, 5), .inl (gcs G 1, 120, .inl txf))) : MetX l yX18_digit (ws_ yX18_digit cX18_digit 2 (some .int)) ({ frames := 5, cells := 1, slots := 7, locals := 102 }) (gPc G [.ref rd, .int (nI mo)] M) G (fun q9 M9 k9 => M9 q9 = some ((7, 1), .inr (15, [.null, .null, .null, .null, .null, .int 0, .int (nI pq)])) ∧ gFr (gT (fun t => t.1 = 7)) M M9 ∧ k9 ≤ 1) 1 7 := by
  refine gMetX [(0, .ref rd), (1, .int (nI mo))] (by decide) (Nat.le_of_ble_eq_true rfl) rfl ?_
  intro p e s m below meth c hC hTB
  refine g_aload_n hC dX18_digit_0 0 rfl gRef_r 1 rfl ?_
  refine g_aload_n hC dX18_digit_1 0 rfl gRef_r 2 rfl ?_
  refine g_calliP (g_V (As := []) (rest := [.ref rd]) hC mvX18_here q2770 (gOf.of hC.K cI14 hM_0) (met_Rd_here l G M rd xa of sv ms tx lc txf pq hlc hpq htx hM_0 hM_1 hM_2) ⟨rfl, rfl⟩ ⟨(Nat.le_of_ble_eq_true rfl), (Nat.le_of_ble_eq_true rfl)⟩ rfl (Nat.le_of_ble_eq_true rfl) dX18_digit_2 rfl ⟨(Nat.le_of_ble_eq_true rfl), (Nat.le_of_ble_eq_true rfl)⟩) 5 rfl 0 (Nat.le_of_ble_eq_true rfl) ?_
  refine g_i2l hC dX18_digit_5 6 rfl ?_
  refine g_ldc2 hC q2774 dX18_digit_6 9 rfl ?_
  refine g_bipush hC dX18_digit_9 kb_48 11 rfl ?_
  refine g_iload_n hC dX18_digit_11 1 rfl 12 rfl ?_
  refine g_iadd hC dX18_digit_12 13 rfl ?_
  refine g_topi (y := nI (mo + 48)) (nI_a (a := 48) (b := mo) (c := (mo + 48)) (by omega)) ?_
  refine g_i2l hC dX18_digit_13 14 rfl ?_
  refine g_calliP (g_SN (As := [.long (Int32.toInt64 (hereT txf lc pq)), .long 48, .long (Int32.toInt64 (nI (mo + 48)))]) (rest := [.ref rd]) hC msX0_isIn q2775 (met_isIn l G M (Int32.toInt64 (hereT txf lc pq)) 48 (Int32.toInt64 (nI (mo + 48)))) ⟨rfl, rfl⟩ ⟨(Nat.le_of_ble_eq_true rfl), (Nat.le_of_ble_eq_true rfl)⟩ rfl (Nat.le_of_ble_eq_true rfl) dX18_digit_14 rfl ⟨(Nat.le_of_ble_eq_true rfl), (Nat.le_of_ble_eq_true rfl)⟩) 17 rfl 0 (Nat.le_of_ble_eq_true rfl) ?_
  exact g_callX hC hTB (g_VX (As := [.int (bI (decide (48 ≤ (Int32.toInt64 (hereT txf lc pq)) ∧ (Int32.toInt64 (hereT txf lc pq)) ≤ (Int32.toInt64 (nI (mo + 48))))))]) (rest := []) hC mvX18_expect q2776 (gOf.of hC.K cI14 hM_0) (met_Rd_expect_x l G M rd xa of sv ms tx lc txf pq (bI (decide (48 ≤ (Int32.toInt64 (hereT txf lc pq)) ∧ (Int32.toInt64 (hereT txf lc pq)) ≤ (Int32.toInt64 (nI (mo + 48)))))) hlc hpq htx (by rw [decide_eq_false (fun q9 => hd ((dig_i (here_r htx) hmo).mp q9))]; rfl) hM_0 hM_1 hM_2) ⟨rfl, rfl⟩ ⟨(Nat.le_of_ble_eq_true rfl), (Nat.le_of_ble_eq_true rfl)⟩ rfl (Nat.le_of_ble_eq_true rfl) dX18_digit_17 rfl ⟨(Nat.le_of_ble_eq_true rfl), (Nat.le_of_ble_eq_true rfl)⟩) (Nat.le_of_ble_eq_true rfl) (Nat.le_of_ble_eq_true rfl) (fun q1 M2 k3 k9 hp4 hk9 => by obtain ⟨hc5, hF6, hk7⟩ := hp4; exact ⟨hc5, (gFr.refl.trans (hF6.mono (fun b t h => by obtain ⟨u9, v9⟩ := t; revert h; (try simp only [ndT, tgE, gT, tgR, ndT9, ndW, tg0, Prod.mk.injEq, true_and, and_true, cpyT, msT]); first | done | omega | (simp; done) | (intro h; simp_all; done)))), (by omega)⟩)
set_option maxHeartbeats 4000000 in
theorem met_Rd_hex (l : Launch) (G : gG) (M : gM) (rd : Nat) (xa : Nat) (of : Nat) (sv : Nat) (ms : Nat) (tx : Nat) (lc : Nat) (txf : Nat → Int32) (pq : Nat) (hlc : lc ≤ 120) (hpq : pq ≤ 200) (htx : ∀ q, 0 ≤ txf q ∧ txf q ≤ 127) (hM_0 : M rd = some ((7, 0), .inr (14, [.int (nI pq), .ref xa]))) (hM_1 : M xa = some ((8, 0), .inr (0, [.ref of, .ref sv, .ref ms, .ref tx, .int (nI lc)]))) (hM_2 : M tx = some ((8, 5), .inl (gcs G 1, 120, .inl txf))) : Met l yX18_hex (ws_ yX18_hex cX18_hex 2 (some .int)) ({ frames := 1, cells := 0, slots := 0, locals := 25 }) (gPc G [.ref rd] M) (gQi G (fun r9 M9 k9 => r9 = (hexF (hereT txf lc pq)) ∧ M9 = M ∧ k9 = 0)) 0 0 (gA G) := by
  refine gMet [(0, .ref rd)] (by decide) (Nat.le_of_ble_eq_true rfl) rfl ?_
  intro p e s m below meth c hC
  refine g_aload_n hC dX18_hex_0 0 rfl gRef_r 1 rfl ?_
  refine g_calliP (g_V (As := []) (rest := []) hC mvX18_here q2770 (gOf.of hC.K cI14 hM_0) (met_Rd_here l G M rd xa of sv ms tx lc txf pq hlc hpq htx hM_0 hM_1 hM_2) ⟨rfl, rfl⟩ ⟨(Nat.le_of_ble_eq_true rfl), (Nat.le_of_ble_eq_true rfl)⟩ rfl (Nat.le_of_ble_eq_true rfl) dX18_hex_1 rfl ⟨(Nat.le_of_ble_eq_true rfl), (Nat.le_of_ble_eq_true rfl)⟩) 4 rfl 0 (Nat.le_of_ble_eq_true rfl) ?_
  refine g_istore_n hC dX18_hex_4 rfl (Nat.le_of_ble_eq_true rfl) [(1, .int (hereT txf lc pq)), (0, .ref rd)] rfl 5 rfl ?_
  refine g_iload_n hC dX18_hex_5 0 rfl 6 rfl ?_
  refine g_i2l hC dX18_hex_6 7 rfl ?_
  refine g_ldc2 hC q2774 dX18_hex_7 10 rfl ?_
  refine g_ldc2 hC q2820 dX18_hex_10 13 rfl ?_
  refine g_calliP (g_SN (As := [.long (Int32.toInt64 (hereT txf lc pq)), .long 48, .long 57]) (rest := []) hC msX0_isIn q2775 (met_isIn l G M (Int32.toInt64 (hereT txf lc pq)) 48 57) ⟨rfl, rfl⟩ ⟨(Nat.le_of_ble_eq_true rfl), (Nat.le_of_ble_eq_true rfl)⟩ rfl (Nat.le_of_ble_eq_true rfl) dX18_hex_13 rfl ⟨(Nat.le_of_ble_eq_true rfl), (Nat.le_of_ble_eq_true rfl)⟩) 16 rfl 0 (Nat.le_of_ble_eq_true rfl) ?_
  refine g_topi (y := bI (decide (48 ≤ hereT txf lc pq ∧ hereT txf lc pq ≤ 57))) (isIn_c 48 57 (by decide) (by decide)) ?_
  refine g_if_eq hC dX18_hex_16 26 rfl 19 rfl (fun c_1 => ?_) (fun c_1 => ?_)
  · replace c_1 := bId_0 c_1
    refine g_iload_n hC dX18_hex_26 0 rfl 27 rfl ?_
    refine g_i2l hC dX18_hex_27 28 rfl ?_
    refine g_ldc2 hC q2821 dX18_hex_28 31 rfl ?_
    refine g_ldc2 hC q2822 dX18_hex_31 34 rfl ?_
    refine g_calliP (g_SN (As := [.long (Int32.toInt64 (hereT txf lc pq)), .long 97, .long 102]) (rest := []) hC msX0_isIn q2775 (met_isIn l G M (Int32.toInt64 (hereT txf lc pq)) 97 102) ⟨rfl, rfl⟩ ⟨(Nat.le_of_ble_eq_true rfl), (Nat.le_of_ble_eq_true rfl)⟩ rfl (Nat.le_of_ble_eq_true rfl) dX18_hex_34 rfl ⟨(Nat.le_of_ble_eq_true rfl), (Nat.le_of_ble_eq_true rfl)⟩) 37 rfl 0 (Nat.le_of_ble_eq_true rfl) ?_
    refine g_topi (y := bI (decide (97 ≤ hereT txf lc pq ∧ hereT txf lc pq ≤ 102))) (isIn_c 97 102 (by decide) (by decide)) ?_
    refine g_if_eq hC dX18_hex_37 50 rfl 40 rfl (fun c_2 => ?_) (fun c_2 => ?_)
    · replace c_2 := bId_0 c_2
      refine g_iconst hC dX18_hex_50 ki_m1 51 rfl ?_
      exact g_iret (v := -1) hC (fun k9 hk9 => ⟨(by first | rfl | (simp only [hexF, eq_false c_1, eq_false c_2, if_true, if_false, true_and, and_true, false_and, and_false, true_or, or_true, false_or, or_false, not_true_eq_false, not_false_eq_true, reduceIte, decide_true, decide_false, Bool.false_eq_true]; done) | (simp only [hexF, eq_false c_1, eq_false c_2, if_true, if_false, true_and, and_true, false_and, and_false, true_or, or_true, false_or, or_false, not_true_eq_false, not_false_eq_true, reduceIte, decide_true, decide_false, Bool.false_eq_true]; rfl) | (simp only [hexF, c_1, c_2, if_true, if_false, true_and, and_true, false_and, and_false, true_or, or_true, false_or, or_false, not_true_eq_false, not_false_eq_true, reduceIte, decide_true, decide_false, Bool.false_eq_true]; done) | (simp only [hexF]; simp only [if_true, if_false, true_and, and_true, false_and, and_false, true_or, or_true, false_or, or_false, not_true_eq_false, not_false_eq_true, reduceIte, decide_true, decide_false, Bool.false_eq_true, eq_false c_1, eq_false c_2]; done) | (simp only [hexF]; simp only [if_true, if_false, true_and, and_true, false_and, and_false, true_or, or_true, false_or, or_false, not_true_eq_false, not_false_eq_true, reduceIte, decide_true, decide_false, Bool.false_eq_true, c_1, c_2]; done) | (simp only [hexF]; simp only [if_true, if_false, true_and, and_true, false_and, and_false, true_or, or_true, false_or, or_false, not_true_eq_false, not_false_eq_true, reduceIte, decide_true, decide_false, Bool.false_eq_true, c_1, c_2]; simp only [hexF]; done) | (simp only [hexF, c_1, c_2, if_true, if_false, true_and, and_true, false_and, and_false, true_or, or_true, false_or, or_false, not_true_eq_false, not_false_eq_true, reduceIte, decide_true, decide_false, Bool.false_eq_true]; rfl) | (simp only [hexF]; simp only [if_true, if_false, true_and, and_true, false_and, and_false, true_or, or_true, false_or, or_false, not_true_eq_false, not_false_eq_true, reduceIte, decide_true, decide_false, Bool.false_eq_true, c_1, c_2]; rfl) | (simp only [hexF]; rfl) | (simp only [hexF, c_1, c_2, if_true, if_false, true_and, and_true, false_and, and_false, true_or, or_true, false_or, or_false, not_true_eq_false, not_false_eq_true, reduceIte, decide_true, decide_false, Bool.false_eq_true]; rfl) | (simp_all [hexF]; done)), rfl, Nat.le_zero.mp hk9⟩) dX18_hex_51 (Nat.le_of_ble_eq_true rfl) (Nat.le_of_ble_eq_true rfl)
    · replace c_2 := bId_1 c_2
      refine g_iload_n hC dX18_hex_40 0 rfl 41 rfl ?_
      refine g_bipush hC dX18_hex_41 kb_97 43 rfl ?_
      refine g_isub hC dX18_hex_43 44 rfl ?_
      refine g_bipush hC dX18_hex_44 kb_10 46 rfl ?_
      refine g_iadd hC dX18_hex_46 47 rfl ?_
      refine g_goto hC dX18_hex_47 51 rfl ?_
      exact g_iret (v := ((hereT txf lc pq) - 97) + 10) hC (fun k9 hk9 => ⟨(by first | rfl | (simp only [hexF, eq_false c_1, eq_true c_2, if_true, if_false, true_and, and_true, false_and, and_false, true_or, or_true, false_or, or_false, not_true_eq_false, not_false_eq_true, reduceIte, decide_true, decide_false, Bool.false_eq_true]; done) | (simp only [hexF, eq_false c_1, eq_true c_2, if_true, if_false, true_and, and_true, false_and, and_false, true_or, or_true, false_or, or_false, not_true_eq_false, not_false_eq_true, reduceIte, decide_true, decide_false, Bool.false_eq_true]; rfl) | (simp only [hexF, c_1, c_2, if_true, if_false, true_and, and_true, false_and, and_false, true_or, or_true, false_or, or_false, not_true_eq_false, not_false_eq_true, reduceIte, decide_true, decide_false, Bool.false_eq_true]; done) | (simp only [hexF]; simp only [if_true, if_false, true_and, and_true, false_and, and_false, true_or, or_true, false_or, or_false, not_true_eq_false, not_false_eq_true, reduceIte, decide_true, decide_false, Bool.false_eq_true, eq_false c_1, eq_true c_2]; done) | (simp only [hexF]; simp only [if_true, if_false, true_and, and_true, false_and, and_false, true_or, or_true, false_or, or_false, not_true_eq_false, not_false_eq_true, reduceIte, decide_true, decide_false, Bool.false_eq_true, c_1, c_2]; done) | (simp only [hexF]; simp only [if_true, if_false, true_and, and_true, false_and, and_false, true_or, or_true, false_or, or_false, not_true_eq_false, not_false_eq_true, reduceIte, decide_true, decide_false, Bool.false_eq_true, c_1, c_2]; simp only [hexF]; done) | (simp only [hexF, c_1, c_2, if_true, if_false, true_and, and_true, false_and, and_false, true_or, or_true, false_or, or_false, not_true_eq_false, not_false_eq_true, reduceIte, decide_true, decide_false, Bool.false_eq_true]; rfl) | (simp only [hexF]; simp only [if_true, if_false, true_and, and_true, false_and, and_false, true_or, or_true, false_or, or_false, not_true_eq_false, not_false_eq_true, reduceIte, decide_true, decide_false, Bool.false_eq_true, c_1, c_2]; rfl) | (simp only [hexF]; rfl) | (simp only [hexF, c_1, c_2, if_true, if_false, true_and, and_true, false_and, and_false, true_or, or_true, false_or, or_false, not_true_eq_false, not_false_eq_true, reduceIte, decide_true, decide_false, Bool.false_eq_true]; rfl) | (simp_all [hexF]; done)), rfl, Nat.le_zero.mp hk9⟩) dX18_hex_51 (Nat.le_of_ble_eq_true rfl) (Nat.le_of_ble_eq_true rfl)
  · replace c_1 := bId_1 c_1
    refine g_iload_n hC dX18_hex_19 0 rfl 20 rfl ?_
    refine g_bipush hC dX18_hex_20 kb_48 22 rfl ?_
    refine g_isub hC dX18_hex_22 23 rfl ?_
    refine g_goto hC dX18_hex_23 51 rfl ?_
    exact g_iret (v := (hereT txf lc pq) - 48) hC (fun k9 hk9 => ⟨(by first | rfl | (simp only [hexF, eq_true c_1, if_true, if_false, true_and, and_true, false_and, and_false, true_or, or_true, false_or, or_false, not_true_eq_false, not_false_eq_true, reduceIte, decide_true, decide_false, Bool.false_eq_true]; done) | (simp only [hexF, eq_true c_1, if_true, if_false, true_and, and_true, false_and, and_false, true_or, or_true, false_or, or_false, not_true_eq_false, not_false_eq_true, reduceIte, decide_true, decide_false, Bool.false_eq_true]; rfl) | (simp only [hexF, c_1, if_true, if_false, true_and, and_true, false_and, and_false, true_or, or_true, false_or, or_false, not_true_eq_false, not_false_eq_true, reduceIte, decide_true, decide_false, Bool.false_eq_true]; done) | (simp only [hexF]; simp only [if_true, if_false, true_and, and_true, false_and, and_false, true_or, or_true, false_or, or_false, not_true_eq_false, not_false_eq_true, reduceIte, decide_true, decide_false, Bool.false_eq_true, eq_true c_1]; done) | (simp only [hexF]; simp only [if_true, if_false, true_and, and_true, false_and, and_false, true_or, or_true, false_or, or_false, not_true_eq_false, not_false_eq_true, reduceIte, decide_true, decide_false, Bool.false_eq_true, c_1]; done) | (simp only [hexF]; simp only [if_true, if_false, true_and, and_true, false_and, and_false, true_or, or_true, false_or, or_false, not_true_eq_false, not_false_eq_true, reduceIte, decide_true, decide_false, Bool.false_eq_true, c_1]; simp only [hexF]; done) | (simp only [hexF, c_1, if_true, if_false, true_and, and_true, false_and, and_false, true_or, or_true, false_or, or_false, not_true_eq_false, not_false_eq_true, reduceIte, decide_true, decide_false, Bool.false_eq_true]; rfl) | (simp only [hexF]; simp only [if_true, if_false, true_and, and_true, false_and, and_false, true_or, or_true, false_or, or_false, not_true_eq_false, not_false_eq_true, reduceIte, decide_true, decide_false, Bool.false_eq_true, c_1]; rfl) | (simp only [hexF]; rfl) | (simp only [hexF, c_1, if_true, if_false, true_and, and_true, false_and, and_false, true_or, or_true, false_or, or_false, not_true_eq_false, not_false_eq_true, reduceIte, decide_true, decide_false, Bool.false_eq_true]; rfl) | (simp_all [hexF]; done)), rfl, Nat.le_zero.mp hk9⟩) dX18_hex_51 (Nat.le_of_ble_eq_true rfl) (Nat.le_of_ble_eq_true rfl)
set_option maxHeartbeats 4000000 in
theorem met_Rd_takeHex (l : Launch) (G : gG) (M : gM) (rd : Nat) (xa : Nat) (of : Nat) (sv : Nat) (ms : Nat) (tx : Nat) (lc : Nat) (txf : Nat → Int32) (pq : Nat) (mo : Nat) (hlc : lc ≤ 120) (hpq : pq ≤ 200) (htx : ∀ q, 0 ≤ txf q ∧ txf q ≤ 127) (hmo : mo ≤ 15) (hd : (0 ≤ hexF (hereT txf lc pq) ∧ hexF (hereT txf lc pq) ≤ nI mo)) (hM_0 : M rd = some ((7, 0), .inr (14, [.int (nI pq), .ref xa]))) (hM_1 : M xa = some ((8, 0), .inr (0, [.ref of, .ref sv, .ref ms, .ref tx, .int (nI lc)]))) (hM_2 : M tx = some ((8, 5), .inl (gcs G 1, 120, .inl txf))) : Met l yX18_takeHex (ws_ yX18_takeHex cX18_takeHex 3 (some .int)) ({ frames := 2, cells := 0, slots := 0, locals := 46 }) (gPc G [.ref rd, .int (nI mo)] M) (gQi G (fun r9 M9 k9 => r9 = (hexF (hereT txf lc pq)) ∧ M9 rd = some ((7, 0), .inr (14, [.int (nI (pq + 1)), .ref xa])) ∧ gFr (gL [rd]) M M9 ∧ k9 = 0)) 0 0 (gA G) := by
  refine gMet [(0, .ref rd), (1, .int (nI mo))] (by decide) (Nat.le_of_ble_eq_true rfl) rfl ?_
  intro p e s m below meth c hC
  refine g_aload_n hC dX18_takeHex_0 0 rfl gRef_r 1 rfl ?_
  refine g_calliP (g_V (As := []) (rest := []) hC mvX18_hex q2816 (gOf.of hC.K cI14 hM_0) (met_Rd_hex l G M rd xa of sv ms tx lc txf pq hlc hpq htx hM_0 hM_1 hM_2) ⟨rfl, rfl⟩ ⟨(Nat.le_of_ble_eq_true rfl), (Nat.le_of_ble_eq_true rfl)⟩ rfl (Nat.le_of_ble_eq_true rfl) dX18_takeHex_1 rfl ⟨(Nat.le_of_ble_eq_true rfl), (Nat.le_of_ble_eq_true rfl)⟩) 4 rfl 0 (Nat.le_of_ble_eq_true rfl) ?_
  refine g_istore_n hC dX18_takeHex_4 rfl (Nat.le_of_ble_eq_true rfl) [(2, .int (hexF (hereT txf lc pq))), (0, .ref rd), (1, .int (nI mo))] rfl 5 rfl ?_
  refine g_aload_n hC dX18_takeHex_5 1 rfl gRef_r 6 rfl ?_
  refine g_iload_n hC dX18_takeHex_6 0 rfl 7 rfl ?_
  refine g_i2l hC dX18_takeHex_7 8 rfl ?_
  refine g_lconst (v := 0) hC dX18_takeHex_8 (by decide) 9 rfl ?_
  refine g_iload_n hC dX18_takeHex_9 2 rfl 10 rfl ?_
  refine g_i2l hC dX18_takeHex_10 11 rfl ?_
  refine g_calliP (g_SN (As := [.long (Int32.toInt64 (hexF (hereT txf lc pq))), .long 0, .long (Int32.toInt64 (nI mo))]) (rest := [.ref rd]) hC msX0_isIn q2775 (met_isIn l G M (Int32.toInt64 (hexF (hereT txf lc pq))) 0 (Int32.toInt64 (nI mo))) ⟨rfl, rfl⟩ ⟨(Nat.le_of_ble_eq_true rfl), (Nat.le_of_ble_eq_true rfl)⟩ rfl (Nat.le_of_ble_eq_true rfl) dX18_takeHex_11 rfl ⟨(Nat.le_of_ble_eq_true rfl), (Nat.le_of_ble_eq_true rfl)⟩) 14 rfl 0 (Nat.le_of_ble_eq_true rfl) ?_
  refine g_callvP (g_V (As := [.int (bI (decide (0 ≤ (Int32.toInt64 (hexF (hereT txf lc pq))) ∧ (Int32.toInt64 (hexF (hereT txf lc pq))) ≤ (Int32.toInt64 (nI mo)))))]) (rest := []) hC mvX18_expect q2776 (gOf.of hC.K cI14 hM_0) (met_Rd_expect l G M rd xa of sv ms tx lc txf pq (bI (decide (0 ≤ (Int32.toInt64 (hexF (hereT txf lc pq))) ∧ (Int32.toInt64 (hexF (hereT txf lc pq))) ≤ (Int32.toInt64 (nI mo))))) hlc hpq htx (by rw [decide_eq_true ((hex_i hmo).mpr hd)]; decide) hM_0 hM_1 hM_2) ⟨rfl, rfl⟩ ⟨(Nat.le_of_ble_eq_true rfl), (Nat.le_of_ble_eq_true rfl)⟩ rfl (Nat.le_of_ble_eq_true rfl) dX18_takeHex_14 rfl ⟨(Nat.le_of_ble_eq_true rfl), (Nat.le_of_ble_eq_true rfl)⟩) 17 rfl 0 (Nat.le_of_ble_eq_true rfl) ?_
  refine g_aload_n hC dX18_takeHex_17 1 rfl gRef_r 18 rfl ?_
  refine g_dup hC dX18_takeHex_18 rfl 19 rfl ?_
  refine g_get (v := .int (nI pq)) hC cI14 hM_0 0 (Nat.le_of_ble_eq_true rfl) q2733 rfl dX18_takeHex_19 22 rfl ?_
  refine g_iconst hC dX18_takeHex_22 ki_1 23 rfl ?_
  refine g_iadd hC dX18_takeHex_23 24 rfl ?_
  refine g_topi (y := nI (pq + 1)) (nI_a (a := pq) (b := 1) (c := (pq + 1)) (by omega)) ?_
  refine g_put hC cI14 hM_0 0 (Nat.le_of_ble_eq_true rfl) q2733 rfl rfl rfl (Nat.le_of_ble_eq_true rfl) dX18_takeHex_24 (fs' := [.int (nI (pq + 1)), .ref xa]) rfl 27 rfl (fun M1 hU2 => ?_)
  refine g_iload_n hC dX18_takeHex_27 0 rfl 28 rfl ?_
  exact g_iret (v := hexF (hereT txf lc pq)) hC (fun k9 hk9 => ⟨rfl, hU2.1, (gFr.refl.up hU2 hM_0 (by simp)), (by first | exact Nat.le_zero.mp hk9 | omega)⟩) dX18_takeHex_28 (Nat.le_of_ble_eq_true rfl) (Nat.le_of_ble_eq_true rfl)
set_option maxHeartbeats 4000000 in
theorem met_Rd_takeHex_x (l : Launch) (G : gG) (M : gM) (rd : Nat) (xa : Nat) (of : Nat) (sv : Nat) (ms : Nat) (tx : Nat) (lc : Nat) (txf : Nat → Int32) (pq : Nat) (mo : Nat) (hlc : lc ≤ 120) (hpq : pq ≤ 200) (htx : ∀ q, 0 ≤ txf q ∧ txf q ≤ 127) (hmo : mo ≤ 15) (hd : ¬ (0 ≤ hexF (hereT txf lc pq) ∧ hexF (hereT txf lc pq) ≤ nI mo)) (hM_0 : M rd = some ((7, 0), .inr (14, [.int (nI pq), .ref xa]))) (hM_1 : M xa = some ((8, 0), .inr (0, [.ref of, .ref sv, .ref ms, .ref tx, .int (nI lc)]))) (hM_2 : M tx = some ((8, 5), .inl (gcs G 1, 120, .inl txf))) : MetX l yX18_takeHex (ws_ yX18_takeHex cX18_takeHex 3 (some .int)) ({ frames := 5, cells := 1, slots := 7, locals := 102 }) (gPc G [.ref rd, .int (nI mo)] M) G (fun q9 M9 k9 => M9 q9 = some ((7, 1), .inr (15, [.null, .null, .null, .null, .null, .int 0, .int (nI pq)])) ∧ gFr (gT (fun t => t.1 = 7)) M M9 ∧ k9 ≤ 1) 1 7 := by
  refine gMetX [(0, .ref rd), (1, .int (nI mo))] (by decide) (Nat.le_of_ble_eq_true rfl) rfl ?_
  intro p e s m below meth c hC hTB
  refine g_aload_n hC dX18_takeHex_0 0 rfl gRef_r 1 rfl ?_
  refine g_calliP (g_V (As := []) (rest := []) hC mvX18_hex q2816 (gOf.of hC.K cI14 hM_0) (met_Rd_hex l G M rd xa of sv ms tx lc txf pq hlc hpq htx hM_0 hM_1 hM_2) ⟨rfl, rfl⟩ ⟨(Nat.le_of_ble_eq_true rfl), (Nat.le_of_ble_eq_true rfl)⟩ rfl (Nat.le_of_ble_eq_true rfl) dX18_takeHex_1 rfl ⟨(Nat.le_of_ble_eq_true rfl), (Nat.le_of_ble_eq_true rfl)⟩) 4 rfl 0 (Nat.le_of_ble_eq_true rfl) ?_
  refine g_istore_n hC dX18_takeHex_4 rfl (Nat.le_of_ble_eq_true rfl) [(2, .int (hexF (hereT txf lc pq))), (0, .ref rd), (1, .int (nI mo))] rfl 5 rfl ?_
  refine g_aload_n hC dX18_takeHex_5 1 rfl gRef_r 6 rfl ?_
  refine g_iload_n hC dX18_takeHex_6 0 rfl 7 rfl ?_
  refine g_i2l hC dX18_takeHex_7 8 rfl ?_
  refine g_lconst (v := 0) hC dX18_takeHex_8 (by decide) 9 rfl ?_
  refine g_iload_n hC dX18_takeHex_9 2 rfl 10 rfl ?_
  refine g_i2l hC dX18_takeHex_10 11 rfl ?_
  refine g_calliP (g_SN (As := [.long (Int32.toInt64 (hexF (hereT txf lc pq))), .long 0, .long (Int32.toInt64 (nI mo))]) (rest := [.ref rd]) hC msX0_isIn q2775 (met_isIn l G M (Int32.toInt64 (hexF (hereT txf lc pq))) 0 (Int32.toInt64 (nI mo))) ⟨rfl, rfl⟩ ⟨(Nat.le_of_ble_eq_true rfl), (Nat.le_of_ble_eq_true rfl)⟩ rfl (Nat.le_of_ble_eq_true rfl) dX18_takeHex_11 rfl ⟨(Nat.le_of_ble_eq_true rfl), (Nat.le_of_ble_eq_true rfl)⟩) 14 rfl 0 (Nat.le_of_ble_eq_true rfl) ?_
  exact g_callX hC hTB (g_VX (As := [.int (bI (decide (0 ≤ (Int32.toInt64 (hexF (hereT txf lc pq))) ∧ (Int32.toInt64 (hexF (hereT txf lc pq))) ≤ (Int32.toInt64 (nI mo)))))]) (rest := []) hC mvX18_expect q2776 (gOf.of hC.K cI14 hM_0) (met_Rd_expect_x l G M rd xa of sv ms tx lc txf pq (bI (decide (0 ≤ (Int32.toInt64 (hexF (hereT txf lc pq))) ∧ (Int32.toInt64 (hexF (hereT txf lc pq))) ≤ (Int32.toInt64 (nI mo))))) hlc hpq htx (by rw [decide_eq_false (fun q9 => hd ((hex_i hmo).mp q9))]; rfl) hM_0 hM_1 hM_2) ⟨rfl, rfl⟩ ⟨(Nat.le_of_ble_eq_true rfl), (Nat.le_of_ble_eq_true rfl)⟩ rfl (Nat.le_of_ble_eq_true rfl) dX18_takeHex_14 rfl ⟨(Nat.le_of_ble_eq_true rfl), (Nat.le_of_ble_eq_true rfl)⟩) (Nat.le_of_ble_eq_true rfl) (Nat.le_of_ble_eq_true rfl) (fun q1 M2 k3 k9 hp4 hk9 => by obtain ⟨hc5, hF6, hk7⟩ := hp4; exact ⟨hc5, (gFr.refl.trans (hF6.mono (fun b t h => by obtain ⟨u9, v9⟩ := t; revert h; (try simp only [ndT, tgE, gT, tgR, ndT9, ndW, tg0, Prod.mk.injEq, true_and, and_true, cpyT, msT]); first | done | omega | (simp; done) | (intro h; simp_all; done)))), (by omega)⟩)
