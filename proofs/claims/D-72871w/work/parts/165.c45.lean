/-! the public methods: disturb -/
set_option maxRecDepth 100000
theorem nI_i32 {y : Int32} {n : Nat} (h0 : 0 ≤ y) (h : y ≤ nI n) (hn : n < 2147483648) : ∃ m, m ≤ n ∧ y = nI m := by
  obtain ⟨m, h1, h2⟩ := i_nat (Int32.not_lt.mpr h0)
  subst h2
  exact ⟨m, nn_le h1 hn h, rfl⟩
theorem busR.dist {M : gM} {G : gG} {ta of q : Nat} {f : Nat → Int32} (h : busR M G ta of f q) (hta : 2 ≤ ta ∧ ta < 9) (hq : q < 1000000) : ∃ (bn bd bh tn : Nat) (pl ol rv : Int32) (D : List dsE) (mc : Int32), M of = some ((ta, 100), .inr (1, [.ref bn, .ref bd, .ref bh, .int (nI tn), .int pl, .int ol, .int rv])) ∧ M bd = some ((ta, 102), .inr (17, [.int mc, .int (nI D.length), va_rf (llN D none), va_rf (llZ none D)])) ∧ lls M (ta, 103) D ∧ dss M D ∧ f 1024 = nI tn ∧ (f 1028 = nI D.length ∧ D.length ≤ 8) ∧ ∀ (M' : gM) (a it : Nat) (no de mc' : Int32), gFr (gT (fun t => tgE ta 102 t ∨ tgE ta 103 t)) M M' → M' bd = some ((ta, 102), .inr (17, [.int mc', .int (nI (D ++ [(a, it, no, nI tn + de)]).length), va_rf (llN (D ++ [(a, it, no, nI tn + de)]) none), va_rf (llZ none (D ++ [(a, it, no, nI tn + de)]))])) → lls M' (ta, 103) (D ++ [(a, it, no, nI tn + de)]) → dss M' (D ++ [(a, it, no, nI tn + de)]) → D.length < 8 → (0 ≤ de ∧ de ≤ 200) → busR M' G ta of (T_dist f no de D.length) q := by
  obtain ⟨x0, x1, x2, x3, D, hs, tn, pl, ol, rv, ⟨bn, bd, bh, n0, n1, n2, n3, mc, b0, b1, b2, b3, l1, l2, z0, z1, z2, z3⟩, hR⟩ := h
  obtain ⟨r0, r1, r2, r3⟩ := hR.1
  obtain ⟨d1, d2, d3⟩ := hR.2.2.2.2.1
  refine ⟨bn, bd, bh, tn, pl, ol, rv, D, mc, b0, b2, l1, l2, hR.2.1.1, ⟨d2, d1⟩, fun M' a it no de mc' hF hb hl hd h8 hde => ?_⟩
  obtain ⟨m, m1, m2⟩ := nI_i32 (n := 200) hde.1 hde.2 (by decide)
  have htn := hR.2.1.2
  have hc : ∀ c, ¬ (c = 1028 ∨ c = 2 * D.length + 1029 ∨ c = 2 * D.length + 1030) → T_dist f no de D.length c = f c := fun c hc => by unfold T_dist; rw [pk_un (by omega), pk_un (by omega), pk_un (by omega)]
  refine ⟨x0, x1, x2, x3, D ++ [(a, it, no, nI tn + de)], hs, tn, pl, ol, rv, ⟨bn, bd, bh, n0, n1, n2, n3, mc', hF _ _ _ b0 (by simp [gT, tgE]), hF _ _ _ b1 (by simp [gT, tgE]), hb, hF _ _ _ b3 (by simp [gT, tgE]), hl, hd, z0.fr (hF.mono ?_), z1.fr (hF.mono ?_), z2.fr (hF.mono ?_), z3.fr (hF.mono ?_)⟩, ⟨r0.fr (fun c _ => hc _ (by omega)), r1.fr (fun c _ => hc _ (by omega)), r2.fr (fun c _ => hc _ (by omega)), r3.fr (fun c _ => hc _ (by omega))⟩, ?_, ?_, hR.2.2.2.1, ⟨?_, ?_, fun i e he => ?_⟩, fun i hi => ?_⟩
  any_goals (intro b t q9; obtain ⟨u9, v9⟩ := t; simp only [gT, tgE, tg0, ndT] at q9 ⊢; omega)
  · rw [hc 1024 (by omega)]; exact hR.2.1
  · rw [hc 1025 (by omega), hc 1026 (by omega), hc 1027 (by omega)]; exact hR.2.2.1
  · rw [List.length_append]; simp only [List.length_cons, List.length_nil]; omega
  · rw [List.length_append]; exact pk_us
  · by_cases z : i < D.length
    · rw [List.getElem?_append_left z] at he
      rw [hc _ (by omega), hc _ (by omega)]
      exact d3 i e he
    · have hi : i < (D ++ [(a, it, no, nI tn + de)]).length := (List.getElem?_eq_some_iff.mp he).1
      rw [List.length_append] at hi
      simp only [List.length_cons, List.length_nil] at hi
      have hiD : i = D.length := by omega
      subst hiD
      rw [List.getElem?_append_right (Nat.le_refl _), Nat.sub_self] at he
      cases he
      refine ⟨?_, ?_, tn + m, ?_, by omega, by omega⟩
      · unfold T_dist
        rw [pk_un (by omega), pk_un (by omega)]
        show upd f (2 * D.length + 1029) (f 1024 + de) (2 * D.length + 1029) = nI tn + de
        rw [pk_us, hR.2.1.1]
      · unfold T_dist
        rw [pk_un (by omega)]
        exact pk_us
      · show nI tn + de = nI (tn + m)
        rw [m2]
        exact nI_a (a := tn) (b := m) (c := tn + m) (by omega)
  · rw [hc (i + 1050) (by omega)]; exact hR.2.2.2.2.2 i hi
theorem D_eq {f : Nat → Int32} {n m : Nat} (h1 : f 1028 = nI n) (h2 : f 1028 = nI m) (hn : n ≤ 8) (hm : m ≤ 8) : n = m := nn_eq (by omega) (by omega) (h1.symm.trans h2)
set_option maxHeartbeats 4000000 in
theorem met_X_disturb (l : Launch) (G : gG) (M : gM) (xa : Nat) (sv : Nat) (ms : Nat) (tx : Nat) (le : Int32) (ta : Nat) (of : Nat) (f : Nat → Int32) (q : Nat) (no : Int32) (de : Int32) (nd : Nat) (hta : 2 ≤ ta ∧ ta < 9) (hq : q < 1000000) (hnd : f 1028 = nI nd) (hnd8 : nd ≤ 8) (hM_0 : M xa = some ((8, 0), .inr (0, [.ref of, .ref sv, .ref ms, .ref tx, .int le]))) (hP_0 : busR M G ta of f q) : Met l yX0_disturb (ws_ yX0_disturb cX0_disturb 3 (some .int)) ({ frames := 4, cells := 2, slots := 5, locals := 111 }) (gPc G [.ref xa, .int no, .int de] M) (gQi G (fun r9 M9 k9 => r9 = (if okD no de then (if nd = 8 then -3 else nI (nd + 1)) else -2) ∧ busR M9 G ta of (if okD no de ∧ ¬ nd = 8 then T_dist f no de nd else f) q ∧ gFr (gT (fun t => t.1 = ta ∨ t.1 = 9)) M M9 ∧ k9 ≤ 2)) 2 5 (gA G) := by
  refine gMet [(0, .ref xa), (1, .int no), (2, .int de)] (by decide) (Nat.le_of_ble_eq_true rfl) rfl ?_
  intro p e s m below meth c hC
  refine g_iload_n hC dX0_disturb_0 1 rfl 1 rfl ?_
  refine g_i2l hC dX0_disturb_1 2 rfl ?_
  refine g_lconst (v := 1) hC dX0_disturb_2 (by decide) 3 rfl ?_
  refine g_ldc2 hC q1755 dX0_disturb_3 6 rfl ?_
  refine g_calliP (g_S (As := [.long (Int32.toInt64 no), .long 1, .long 15]) (rest := []) hC msX0_isIn q541 (met_isIn l G M (Int32.toInt64 no) 1 15) ⟨rfl, rfl⟩ ⟨(Nat.le_of_ble_eq_true rfl), (Nat.le_of_ble_eq_true rfl)⟩ rfl (Nat.le_of_ble_eq_true rfl) dX0_disturb_6 rfl ⟨(Nat.le_of_ble_eq_true rfl), (Nat.le_of_ble_eq_true rfl)⟩) 9 rfl 0 (Nat.le_of_ble_eq_true rfl) ?_
  refine g_topi (y := bI (decide (1 ≤ no ∧ no ≤ 15))) (isIn_c 1 15 (by decide) (by decide)) ?_
  refine g_if_eq hC dX0_disturb_9 24 rfl 12 rfl (fun c_1 => ?_) (fun c_1 => ?_)
  · replace c_1 := bId_0 c_1
    refine g_bipush hC dX0_disturb_24 kb_m2 26 rfl ?_
    exact g_iret (v := -2) hC (fun k9 hk9 => ⟨(by rw [if_neg (by simp only [okD, eq_false c_1, if_true, if_false, true_and, and_true, false_and, and_false, true_or, or_true, false_or, or_false, not_true_eq_false, not_false_eq_true, reduceIte, decide_true, decide_false, Bool.false_eq_true])]), (by rw [if_neg (fun q9 => absurd q9.1 (by simp only [okD, eq_false c_1, if_true, if_false, true_and, and_true, false_and, and_false, true_or, or_true, false_or, or_false, not_true_eq_false, not_false_eq_true, reduceIte, decide_true, decide_false, Bool.false_eq_true]))]; exact hP_0), gFr.refl, (by first | exact Nat.le_zero.mp hk9 | omega)⟩) dX0_disturb_26 (Nat.le_of_ble_eq_true rfl) (Nat.le_of_ble_eq_true rfl)
  · replace c_1 := bId_1 c_1
    refine g_iload_n hC dX0_disturb_12 2 rfl 13 rfl ?_
    refine g_i2l hC dX0_disturb_13 14 rfl ?_
    refine g_lconst (v := 0) hC dX0_disturb_14 (by decide) 15 rfl ?_
    refine g_ldc2 hC q1756 dX0_disturb_15 18 rfl ?_
    refine g_calliP (g_S (As := [.long (Int32.toInt64 de), .long 0, .long 200]) (rest := []) hC msX0_isIn q541 (met_isIn l G M (Int32.toInt64 de) 0 200) ⟨rfl, rfl⟩ ⟨(Nat.le_of_ble_eq_true rfl), (Nat.le_of_ble_eq_true rfl)⟩ rfl (Nat.le_of_ble_eq_true rfl) dX0_disturb_18 rfl ⟨(Nat.le_of_ble_eq_true rfl), (Nat.le_of_ble_eq_true rfl)⟩) 21 rfl 0 (Nat.le_of_ble_eq_true rfl) ?_
    refine g_topi (y := bI (decide (0 ≤ de ∧ de ≤ 200))) (isIn_c 0 200 (by decide) (by decide)) ?_
    refine g_if_ne hC dX0_disturb_21 27 rfl 24 rfl (fun c_2 => ?_) (fun c_2 => ?_)
    · replace c_2 := bId_1 c_2
      obtain ⟨bn_z3, bd_z3, bh_z3, tn_z3, pl_z3, ol_z3, rv_z3, D_z3, mc_z3, b0_z3, b2_z3, l1_z3, l2_z3, ht_z3, h28_z3, hW_z3⟩ := busR.dist hP_0 hta hq
      have hD9 : D_z3.length = nd := D_eq h28_z3.1 hnd h28_z3.2 hnd8
      refine g_aload_n hC dX0_disturb_27 0 rfl gRef_r 28 rfl ?_
      refine g_get (v := .ref of) hC cI0 hM_0 0 (Nat.le_of_ble_eq_true rfl) q517 rfl dX0_disturb_28 31 rfl ?_
      refine g_getN (v := .ref bd_z3) hC cI1 b0_z3 1 (Nat.le_of_ble_eq_true rfl) q472 rfl dX0_disturb_31 34 rfl ?_
      refine g_calliP (g_V (As := []) (rest := []) hC mvJ3_size q1757 (gOf.of hC.K cI17 b2_z3) (met_LL_size l G M bd_z3 (ta, 102) (ta, 103) mc_z3 D_z3 b2_z3) ⟨rfl, rfl⟩ ⟨(Nat.le_of_ble_eq_true rfl), (Nat.le_of_ble_eq_true rfl)⟩ rfl (Nat.le_of_ble_eq_true rfl) dX0_disturb_34 rfl ⟨(Nat.le_of_ble_eq_true rfl), (Nat.le_of_ble_eq_true rfl)⟩) 37 rfl 0 (Nat.le_of_ble_eq_true rfl) ?_
      refine g_bipush hC dX0_disturb_37 kb_8 39 rfl ?_
      refine g_icmp_ne hC dX0_disturb_39 45 rfl 42 rfl (fun c_4 => ?_) (fun c_4 => ?_)
      · replace c_4 : ¬ D_z3.length = 8 := nn_neq (by omega) (by omega) c_4
        refine g_aload_n hC dX0_disturb_45 0 rfl gRef_r 46 rfl ?_
        refine g_get (v := .ref of) hC cI0 hM_0 0 (Nat.le_of_ble_eq_true rfl) q517 rfl dX0_disturb_46 49 rfl ?_
        refine g_getN (v := .ref bd_z3) hC cI1 b0_z3 1 (Nat.le_of_ble_eq_true rfl) q472 rfl dX0_disturb_49 52 rfl ?_
        refine g_new hC cI10 q1758 q1759 q146 df10 (0, 3) (Nat.le_of_ble_eq_true rfl) (Nat.le_of_ble_eq_true rfl) 1 (Nat.le_of_ble_eq_true rfl) 2 (Nat.le_of_ble_eq_true rfl) dX0_disturb_52 55 rfl (fun a5 M6 hN7 => ?_)
        refine g_dup hC dX0_disturb_55 rfl 56 rfl ?_
        refine g_iload_n hC dX0_disturb_56 1 rfl 57 rfl ?_
        refine g_aload_n hC dX0_disturb_57 0 rfl gRef_r 58 rfl ?_
        refine g_get (v := .ref of) hC cI0 (hN7.n hM_0) 0 (Nat.le_of_ble_eq_true rfl) q517 rfl dX0_disturb_58 61 rfl ?_
        refine g_getN (v := .int (nI tn_z3)) hC cI1 (hN7.n b0_z3) 3 (Nat.le_of_ble_eq_true rfl) q476 rfl dX0_disturb_61 64 rfl ?_
        refine g_iload_n hC dX0_disturb_64 2 rfl 65 rfl ?_
        refine g_iadd hC dX0_disturb_65 66 rfl ?_
        refine g_callv (g_I (As := [.int no, .int ((nI tn_z3) + de)]) (rest := [.ref a5, .ref bd_z3]) hC miX11_init q1760 (met_Ds_init l G M6 a5 (0, 3) no ((nI tn_z3) + de) hN7.2.1) ⟨rfl, rfl⟩ ⟨(Nat.le_of_ble_eq_true rfl), (Nat.le_of_ble_eq_true rfl)⟩ rfl (Nat.le_of_ble_eq_true rfl) dX0_disturb_66 rfl ⟨(Nat.le_of_ble_eq_true rfl), (Nat.le_of_ble_eq_true rfl)⟩) 1 (Nat.le_of_ble_eq_true rfl) 2 (Nat.le_of_ble_eq_true rfl) 69 rfl (fun M8 k9 hp10 => ?_)
        obtain ⟨hc12, hF13, hk14⟩ := hp10
        refine g_callv (g_V (As := [.ref a5]) (rest := []) hC mvJ3_addLast q1773 (gOf.of hC.K cI17 (hF13 _ _ _ (hN7.n b2_z3) (gno (hN7.ne b2_z3) gno0))) (met_LL_add l G M8 bd_z3 (ta, 102) (ta, 103) mc_z3 D_z3 a5 no ((nI tn_z3) + de) (hF13 _ _ _ (hN7.n b2_z3) (gno (hN7.ne b2_z3) gno0)) hc12 (lls.fr l1_z3 ((gFr.refl.nw hN7).trf hF13 (fun b t e hb hn => (gno (hN7.ne (gFr.refl b t e hb hn)) gno0)))) (dss.fr l2_z3 ((gFr.refl.nw hN7).trf hF13 (fun b t e hb hn => (gno (hN7.ne (gFr.refl b t e hb hn)) gno0))))) ⟨rfl, rfl⟩ ⟨(Nat.le_of_ble_eq_true rfl), (Nat.le_of_ble_eq_true rfl)⟩ rfl (Nat.le_of_ble_eq_true rfl) dX0_disturb_69 rfl ⟨(Nat.le_of_ble_eq_true rfl), (Nat.le_of_ble_eq_true rfl)⟩) 2 (Nat.le_of_ble_eq_true rfl) 5 (Nat.le_of_ble_eq_true rfl) 72 rfl (fun M15 k16 hp17 => ?_)
        obtain ⟨a_19, hc20, hpd21, hpd22, hF23, hk24⟩ := hp17
        have hH25 := (hF23 _ _ _ hc12 (show ¬ (fun t => tgE (ta, 102).1 (ta, 102).2 t ∨ tgE (ta, 103).1 (ta, 103).2 t) (0, 3) by (try simp only [ndT, tgE, gT, tgR, ndT9, ndW, tg0, Prod.mk.injEq, true_and, and_true, cpyT]); first | done | omega | (simp; done) | simp_all))
        have hH26 := (hF23 _ _ _ (hF13 _ _ _ (hN7.n hM_0) (gno (hN7.ne hM_0) gno0)) (show ¬ (fun t => tgE (ta, 102).1 (ta, 102).2 t ∨ tgE (ta, 103).1 (ta, 103).2 t) (8, 0) by (try simp only [ndT, tgE, gT, tgR, ndT9, ndW, tg0, Prod.mk.injEq, true_and, and_true, cpyT]); first | done | omega | (simp; done) | simp_all))
        have hH27 := (hF23 _ _ _ (hF13 _ _ _ (hN7.n b0_z3) (gno (hN7.ne b0_z3) gno0)) (show ¬ (fun t => tgE (ta, 102).1 (ta, 102).2 t ∨ tgE (ta, 103).1 (ta, 103).2 t) (ta, 100) by (try simp only [ndT, tgE, gT, tgR, ndT9, ndW, tg0, Prod.mk.injEq, true_and, and_true, cpyT]); first | done | omega | (simp; done) | simp_all))
        have hH28 : dss M15 D_z3 := (dss.fr l2_z3 (((gFr.refl.nw hN7).trf hF13 (fun b t e hb hn => (gno (hN7.ne (gFr.refl b t e hb hn)) gno0))).trans (hF23.mono (fun b t h => by obtain ⟨u9, v9⟩ := t; revert h; (try simp only [ndT, tgE, gT, tgR, ndT9, ndW, tg0, Prod.mk.injEq, true_and, and_true, cpyT]); first | done | omega | (simp; done) | (intro h; simp_all; done)))))
        have hR29 : M15 bd_z3 = some ((ta, 102), .inr (17, [.int (mc_z3 + 1), .int (nI ((D_z3 ++ [(a_19, a5, no, ((nI tn_z3) + de))]).length)), va_rf (llN (D_z3 ++ [(a_19, a5, no, ((nI tn_z3) + de))]) none), va_rf (llZ none (D_z3 ++ [(a_19, a5, no, ((nI tn_z3) + de))]))])) := (by rw [List.length_append]; exact hc20)
        refine g_aload_n hC dX0_disturb_72 0 rfl gRef_r 73 rfl ?_
        refine g_get (v := .ref of) hC cI0 hH26 0 (Nat.le_of_ble_eq_true rfl) q517 rfl dX0_disturb_73 76 rfl ?_
        refine g_getN (v := .ref bd_z3) hC cI1 hH27 1 (Nat.le_of_ble_eq_true rfl) q472 rfl dX0_disturb_76 79 rfl ?_
        refine g_calliP (g_V (As := []) (rest := []) hC mvJ3_size q1757 (gOf.of hC.K cI17 hR29) (met_LL_size l G M15 bd_z3 (ta, 102) (ta, 103) (mc_z3 + 1) (D_z3 ++ [(a_19, a5, no, ((nI tn_z3) + de))]) hR29) ⟨rfl, rfl⟩ ⟨(Nat.le_of_ble_eq_true rfl), (Nat.le_of_ble_eq_true rfl)⟩ rfl (Nat.le_of_ble_eq_true rfl) dX0_disturb_79 rfl ⟨(Nat.le_of_ble_eq_true rfl), (Nat.le_of_ble_eq_true rfl)⟩) 82 rfl 5 (Nat.le_of_ble_eq_true rfl) ?_
        refine g_topi (y := nI ((D_z3 ++ [(a_19, a5, no, ((nI tn_z3) + de))]).length)) (congrArg nI (show (D_z3 ++ [(a_19, a5, no, ((nI tn_z3) + de))]).length = (D_z3 ++ [(a_19, a5, no, ((nI tn_z3) + de))]).length by omega)) ?_
        exact g_iret (v := nI ((D_z3 ++ [(a_19, a5, no, ((nI tn_z3) + de))]).length)) hC (fun k9 hk9 => ⟨(by rw [if_pos (by simp only [okD, eq_true c_1, eq_true c_2, eq_false c_4, if_true, if_false, true_and, and_true, false_and, and_false, true_or, or_true, false_or, or_false, not_true_eq_false, not_false_eq_true, reduceIte, decide_true, decide_false, Bool.false_eq_true]), if_neg (by have := c_4; omega), List.length_append, hD9]; rfl), (by rw [if_pos ⟨(by simp only [okD, eq_true c_1, eq_true c_2, eq_false c_4, if_true, if_false, true_and, and_true, false_and, and_false, true_or, or_true, false_or, or_false, not_true_eq_false, not_false_eq_true, reduceIte, decide_true, decide_false, Bool.false_eq_true]), by have := c_4; omega⟩, ← hD9]; exact hW_z3 _ _ _ _ _ _ (show gFr (gT (fun t => tgE ta 102 t ∨ tgE ta 103 t)) M M15 from (((gFr.refl.nw hN7).trf hF13 (fun b t e hb hn => (gno (hN7.ne (gFr.refl b t e hb hn)) gno0))).trans (hF23.mono (fun b t h => by obtain ⟨u9, v9⟩ := t; revert h; (try simp only [ndT, tgE, gT, tgR, ndT9, ndW, tg0, Prod.mk.injEq, true_and, and_true, cpyT]); first | done | omega | (simp; done) | (intro h; simp_all; done))))) hR29 hpd21 hpd22 (by have := c_4; omega) c_2), (((gFr.refl.nw hN7).trf hF13 (fun b t e hb hn => (gno (hN7.ne (gFr.refl b t e hb hn)) gno0))).trans (hF23.mono (fun b t h => by obtain ⟨u9, v9⟩ := t; revert h; (try simp only [ndT, tgE, gT, tgR, ndT9, ndW, tg0, Prod.mk.injEq, true_and, and_true, cpyT]); first | done | omega | (simp; done) | (intro h; simp_all; done)))), (by first | exact Nat.le_zero.mp hk9 | omega)⟩) dX0_disturb_82 (Nat.le_of_ble_eq_true rfl) (Nat.le_of_ble_eq_true rfl)
      · replace c_4 : D_z3.length = 8 := nn_eq (by omega) (by omega) c_4
        refine g_bipush hC dX0_disturb_42 kb_m3 44 rfl ?_
        exact g_iret (v := -3) hC (fun k9 hk9 => ⟨(by rw [if_pos (by simp only [okD, eq_true c_1, eq_true c_2, eq_true c_4, if_true, if_false, true_and, and_true, false_and, and_false, true_or, or_true, false_or, or_false, not_true_eq_false, not_false_eq_true, reduceIte, decide_true, decide_false, Bool.false_eq_true]), if_pos (by have := c_4; omega)]), (by rw [if_neg (fun q9 => q9.2 (by have := c_4; omega))]; exact hP_0), gFr.refl, (by first | exact Nat.le_zero.mp hk9 | omega)⟩) dX0_disturb_44 (Nat.le_of_ble_eq_true rfl) (Nat.le_of_ble_eq_true rfl)
    · replace c_2 := bId_0 c_2
      refine g_bipush hC dX0_disturb_24 kb_m2 26 rfl ?_
      exact g_iret (v := -2) hC (fun k9 hk9 => ⟨(by rw [if_neg (by simp only [okD, eq_true c_1, eq_false c_2, if_true, if_false, true_and, and_true, false_and, and_false, true_or, or_true, false_or, or_false, not_true_eq_false, not_false_eq_true, reduceIte, decide_true, decide_false, Bool.false_eq_true])]), (by rw [if_neg (fun q9 => absurd q9.1 (by simp only [okD, eq_true c_1, eq_false c_2, if_true, if_false, true_and, and_true, false_and, and_false, true_or, or_true, false_or, or_false, not_true_eq_false, not_false_eq_true, reduceIte, decide_true, decide_false, Bool.false_eq_true]))]; exact hP_0), gFr.refl, (by first | exact Nat.le_zero.mp hk9 | omega)⟩) dX0_disturb_26 (Nat.le_of_ble_eq_true rfl) (Nat.le_of_ble_eq_true rfl)
