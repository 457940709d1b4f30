/-! the public methods: setAnswer -/
set_option maxRecDepth 100000
set_option maxHeartbeats 4000000 in
theorem met_An_init (l : Launch) (G : gG) (M : gM) (h : Nat) (t : Nat × Nat) (ln : Int32) (da : Int32)  (hM_0 : M h = some (t, .inr (9, [.int 0, .int 0]))) : Met l yX10_init (ws_ yX10_init cX10_init 3 none) ({ frames := 1, cells := 0, slots := 0, locals := 12 }) (gPc G [.ref h, .int ln, .int da] M) (gQv G (fun M9 k9 => M9 h = some (t, .inr (9, [.int ln, .int da])) ∧ gFr (gL [h]) M M9 ∧ k9 = 0)) 0 0 (gA G) := by
  refine gMet [(0, .ref h), (1, .int ln), (2, .int da)] (by decide) (Nat.le_of_ble_eq_true rfl) rfl ?_
  intro p e s m below meth c hC
  refine g_aload_n hC dX10_init_0 0 rfl gRef_r 1 rfl ?_
  refine g_objInit hC q990 q176 q177 dX10_init_1 (Nat.le_of_ble_eq_true rfl) (Nat.le_of_ble_eq_true rfl) 4 rfl ?_
  refine g_aload_n hC dX10_init_4 0 rfl gRef_r 5 rfl ?_
  refine g_iload_n hC dX10_init_5 1 rfl 6 rfl ?_
  refine g_putF hC cI9 hM_0 0 (Nat.le_of_ble_eq_true rfl) q991 rfl rfl rfl rfl (Nat.le_of_ble_eq_true rfl) dX10_init_6 (fs' := [.int ln, .int 0]) rfl 9 rfl (fun M1 hU2 => ?_)
  refine g_aload_n hC dX10_init_9 0 rfl gRef_r 10 rfl ?_
  refine g_iload_n hC dX10_init_10 2 rfl 11 rfl ?_
  refine g_putF hC cI9 hU2.1 1 (Nat.le_of_ble_eq_true rfl) q993 rfl rfl rfl rfl (Nat.le_of_ble_eq_true rfl) dX10_init_11 (fs' := [.int ln, .int da]) rfl 14 rfl (fun M3 hU4 => ?_)
  exact g_vret hC (fun k9 hk9 => ⟨hU4.1, ((gFr.refl.up hU2 hM_0 (by simp)).up hU4 hU2.1 (by simp)), (by first | exact Nat.le_zero.mp hk9 | omega)⟩) dX10_init_14 (Nat.le_of_ble_eq_true rfl) (Nat.le_of_ble_eq_true rfl)
theorem aws.put {M0 M : gM} {C : List (Int32 × Nat)} {ad : Nat → Int32 × Int32} {id ln da : Int32} {p : Nat} (h0 : aws M0 C ad) (h : aws M C ad) (hp : M0 p = none) (hs : srtC C) (hn : M p = some ((0, 2), .inr (9, [.int ln, .int da]))) : aws M (tput C id p) (adU ad p ln da) := by
  intro e he
  rcases (tput_mem C hs).mp he with a | a
  · rw [a]
    show M p = some ((0, 2), .inr (9, [.int (adU ad p ln da p).1, .int (adU ad p ln da p).2]))
    rw [show adU ad p ln da p = (ln, da) from if_pos rfl]
    exact hn
  · have hne : e.2 ≠ p := fun z => by
      have := h0 e a.1
      rw [z, hp] at this
      cases this
    rw [show adU ad p ln da e.2 = ad e.2 from if_neg hne]
    exact h e a.1
theorem aws.ne {M : gM} {C : List (Int32 × Nat)} {ad : Nat → Int32 × Int32} {p : Nat} (h : aws M C ad) (hp : M p = none) : ∀ e ∈ C, e.2 ≠ p := fun e he z => by
  have := h e he
  rw [z, hp] at this
  cases this
theorem isS0 {o : Option Nat} (h : bI o.isSome = 0) : o = none := by
  cases o with
  | none => rfl
  | some a => exact absurd h (by show ¬ bI true = 0; decide)
theorem sAns_full {f : Nat → Int32} {k : Nat} {id ln da : Int32} (h : ansT f k id 4 0 < 0) : T_sAns f k id ln da 4 = f := by unfold T_sAns; rw [if_pos h, if_pos rfl]
set_option maxHeartbeats 4000000 in
theorem met_X_setAnswer_n (l : Launch) (G : gG) (M : gM) (xa : Nat) (sv : Nat) (ms : Nat) (tx : Nat) (le : Int32) (ta : Nat) (of : Nat) (f : Nat → Int32) (q : Nat) (x : Int32) (id : Int32) (ln : Int32) (da : Int32) (hx : ¬ (0 ≤ x ∧ x ≤ 3)) (hM_0 : M xa = some ((8, 0), .inr (0, [.ref of, .ref sv, .ref ms, .ref tx, .int le]))) : Met l yX0_setAnswer (ws_ yX0_setAnswer cX0_setAnswer 6 (some .int)) ({ frames := 2, cells := 0, slots := 0, locals := 45 }) (gPc G [.ref xa, .int x, .int id, .int ln, .int da] M) (gQi G (fun r9 M9 k9 => r9 = (-1) ∧ M9 = M ∧ k9 = 0)) 0 0 (gA G) := by
  refine gMet [(0, .ref xa), (1, .int x), (2, .int id), (3, .int ln), (4, .int da)] (by decide) (Nat.le_of_ble_eq_true rfl) rfl ?_
  intro p e s m below meth c hC
  refine g_iload_n hC dX0_setAnswer_0 1 rfl 1 rfl ?_
  refine g_calliP (g_S (As := [.int x]) (rest := []) hC msX0_isNode q550 (met_X_isNode l G M x) ⟨rfl, rfl⟩ ⟨(Nat.le_of_ble_eq_true rfl), (Nat.le_of_ble_eq_true rfl)⟩ rfl (Nat.le_of_ble_eq_true rfl) dX0_setAnswer_1 rfl ⟨(Nat.le_of_ble_eq_true rfl), (Nat.le_of_ble_eq_true rfl)⟩) 4 rfl 0 (Nat.le_of_ble_eq_true rfl) ?_
  refine g_if_ne hC dX0_setAnswer_4 9 rfl 7 rfl (fun c_1 => ?_) (fun c_1 => ?_)
  · replace c_1 := bId_1 c_1
    exact absurd c_1 hx
  · replace c_1 := bId_0 c_1
    refine g_iconst hC dX0_setAnswer_7 ki_m1 8 rfl ?_
    exact g_iret (v := -1) hC (fun k9 hk9 => ⟨rfl, rfl, Nat.le_zero.mp hk9⟩) dX0_setAnswer_8 (Nat.le_of_ble_eq_true rfl) (Nat.le_of_ble_eq_true rfl)
set_option maxHeartbeats 4000000 in
theorem met_X_setAnswer (l : Launch) (G : gG) (M : gM) (xa : Nat) (sv : Nat) (ms : Nat) (tx : Nat) (le : Int32) (ta : Nat) (of : Nat) (f : Nat → Int32) (q : Nat) (k : Nat) (id : Int32) (ln : Int32) (da : Int32) (na : Nat) (hta : 2 ≤ ta ∧ ta < 9) (hk : k < 4) (hna : f (256 * k + 25) = nI na) (hna4 : na ≤ 4) (hM_0 : M xa = some ((8, 0), .inr (0, [.ref of, .ref sv, .ref ms, .ref tx, .int le]))) (hP_0 : busR M G ta of f q) : Met l yX0_setAnswer (ws_ yX0_setAnswer cX0_setAnswer 6 (some .int)) ({ frames := 16, cells := 4, slots := 10, locals := 422 }) (gPc G [.ref xa, .int (nI k), .int id, .int ln, .int da] M) (gQi G (fun r9 M9 k9 => r9 = (if okF id false ln da then (if ansT f k id na 0 < 0 ∧ na = 4 then -3 else T_sAns f k id ln da na (256 * k + 25)) else -2) ∧ busR M9 G ta of (if okF id false ln da then T_sAns f k id ln da na else f) q ∧ gFr (gT (fun t => t.1 = ta ∨ t.1 = 9)) M M9 ∧ k9 ≤ 4)) 4 10 (gA G) := by
  refine gMet [(0, .ref xa), (1, .int (nI k)), (2, .int id), (3, .int ln), (4, .int da)] (by decide) (Nat.le_of_ble_eq_true rfl) rfl ?_
  intro p e s m below meth c hC
  refine g_iload_n hC dX0_setAnswer_0 1 rfl 1 rfl ?_
  refine g_calliP (g_S (As := [.int (nI k)]) (rest := []) hC msX0_isNode q550 (met_X_isNode l G M (nI k)) ⟨rfl, rfl⟩ ⟨(Nat.le_of_ble_eq_true rfl), (Nat.le_of_ble_eq_true rfl)⟩ rfl (Nat.le_of_ble_eq_true rfl) dX0_setAnswer_1 rfl ⟨(Nat.le_of_ble_eq_true rfl), (Nat.le_of_ble_eq_true rfl)⟩) 4 rfl 0 (Nat.le_of_ble_eq_true rfl) ?_
  refine g_if_ne hC dX0_setAnswer_4 9 rfl 7 rfl (fun c_1 => ?_) (fun c_1 => ?_)
  · replace c_1 := bId_1 c_1
    refine g_iload_n hC dX0_setAnswer_9 2 rfl 10 rfl ?_
    refine g_iconst hC dX0_setAnswer_10 ki_0 11 rfl ?_
    refine g_iload_n hC dX0_setAnswer_11 3 rfl 12 rfl ?_
    refine g_iload hC dX0_setAnswer_12 4 rfl 14 rfl ?_
    refine g_calliP (g_S (As := [.int id, .int 0, .int ln, .int da]) (rest := []) hC msX0_isFrame q559 (met_X_isFrame l G M id false ln da) ⟨rfl, rfl⟩ ⟨(Nat.le_of_ble_eq_true rfl), (Nat.le_of_ble_eq_true rfl)⟩ rfl (Nat.le_of_ble_eq_true rfl) dX0_setAnswer_14 rfl ⟨(Nat.le_of_ble_eq_true rfl), (Nat.le_of_ble_eq_true rfl)⟩) 17 rfl 0 (Nat.le_of_ble_eq_true rfl) ?_
    refine g_if_ne hC dX0_setAnswer_17 23 rfl 20 rfl (fun c_2 => ?_) (fun c_2 => ?_)
    · replace c_2 := bId_1 c_2
      obtain ⟨bn_z3, bd_z3, bh_z3, nd_z3, tn_z3, pl_z3, ol_z3, rv_z3, A_z3, x_z3, b0_z3, b1_z3, hA_z3, hN_z3, hR_z3, ht_z3, hl_z3, hp_z3, hW_z3⟩ := busR.nd hP_0 hta (show k < 4 by omega)
      obtain ⟨sa_z39, wa_z39, rc_z39, an_z39, er_z39, hO_z3, hT_z3, hw_z3⟩ := isNd.an hN_z3
      have hnC := na_eq hR_z3 hna hna4
      refine g_aload_n hC dX0_setAnswer_23 0 rfl gRef_r 24 rfl ?_
      refine g_get (v := .ref of) hC cI0 hM_0 0 (Nat.le_of_ble_eq_true rfl) q517 rfl dX0_setAnswer_24 27 rfl ?_
      refine g_getN (v := .ref bn_z3) hC cI1 b0_z3 0 (Nat.le_of_ble_eq_true rfl) q470 rfl dX0_setAnswer_27 30 rfl ?_
      refine g_iload_n hC dX0_setAnswer_30 1 rfl 31 rfl ?_
      refine g_aldq (r := some nd_z3) hC b1_z3 4 rfl (vp_in_nI (by omega) (by omega)) ((congrArg A_z3 (nI_clamp (by omega))).trans hA_z3) dX0_setAnswer_31 32 rfl ?_
      refine g_getN (v := .ref an_z39) hC cI2 hO_z3 14 (Nat.le_of_ble_eq_true rfl) q400 rfl dX0_setAnswer_32 35 rfl ?_
      refine g_astore hC dX0_setAnswer_35 gRef_r (Nat.le_of_ble_eq_true rfl) [(5, .ref an_z39), (0, .ref xa), (1, .int (nI k)), (2, .int id), (3, .int ln), (4, .int da)] rfl 37 rfl ?_
      refine g_aload hC dX0_setAnswer_37 0 rfl gRef_r 39 rfl ?_
      refine g_calliP (g_V (As := []) (rest := []) hC mvJ9_size q566 (isTM.of hC.K hT_z3) (met_TMap_size l G M an_z39 (ta, 16 * k + 6) (ta, 16 * k + 7) x_z3.C hT_z3) ⟨rfl, rfl⟩ ⟨(Nat.le_of_ble_eq_true rfl), (Nat.le_of_ble_eq_true rfl)⟩ rfl (Nat.le_of_ble_eq_true rfl) dX0_setAnswer_39 rfl ⟨(Nat.le_of_ble_eq_true rfl), (Nat.le_of_ble_eq_true rfl)⟩) 42 rfl 0 (Nat.le_of_ble_eq_true rfl) ?_
      refine g_iconst hC dX0_setAnswer_42 ki_4 43 rfl ?_
      refine g_icmp_ne hC dX0_setAnswer_43 61 rfl 46 rfl (fun c_4 => ?_) (fun c_4 => ?_)
      · replace c_4 : ¬ x_z3.C.length = 4 := nn_neq (by omega) (by omega) c_4
        have hnf9 : ¬ (tget x_z3.C id = none ∧ x_z3.C.length = 4) := (fun q9 => c_4 q9.2)
        refine g_aload hC dX0_setAnswer_61 0 rfl gRef_r 63 rfl ?_
        refine g_iload_n hC dX0_setAnswer_63 3 rfl 64 rfl ?_
        refine g_callq (g_S (As := [.int id]) (rest := [.ref an_z39]) hC msJ11_valueOf q570 (met_valueOf l G M id) ⟨rfl, rfl⟩ ⟨(Nat.le_of_ble_eq_true rfl), (Nat.le_of_ble_eq_true rfl)⟩ rfl (Nat.le_of_ble_eq_true rfl) dX0_setAnswer_64 rfl ⟨(Nat.le_of_ble_eq_true rfl), (Nat.le_of_ble_eq_true rfl)⟩) 1 (Nat.le_of_ble_eq_true rfl) 1 (Nat.le_of_ble_eq_true rfl) 67 rfl (fun r8 M5 k6 hp7 => ?_)
        obtain ⟨a_9, rfl, hF10, hq11, hk12⟩ := hp7
        refine g_new hC cI9 q985 q986 q135 df9 (0, 2) (Nat.le_of_ble_eq_true rfl) (Nat.le_of_ble_eq_true rfl) 2 (Nat.le_of_ble_eq_true rfl) 3 (Nat.le_of_ble_eq_true rfl) dX0_setAnswer_67 70 rfl (fun a13 M14 hN15 => ?_)
        have hfr9 : M a13 = none := by
          cases hM9 : M a13 with
          | none => rfl
          | some c9 => exact absurd ((show gFr (gT (fun _ => False)) M M5 from (gFr.refl.trf hF10 (fun b t e hb hn => gno0))) _ _ _ hM9 (fun q9 => q9)) (by rw [hN15.1]; intro q9; cases q9)
        refine g_dup hC dX0_setAnswer_70 rfl 71 rfl ?_
        refine g_iload_n hC dX0_setAnswer_71 4 rfl 72 rfl ?_
        refine g_iload hC dX0_setAnswer_72 5 rfl 74 rfl ?_
        refine g_callv (g_I (As := [.int ln, .int da]) (rest := [.ref a13, .ref a_9, .ref an_z39]) hC miX10_init q987 (met_An_init l G M14 a13 (0, 2) ln da hN15.2.1) ⟨rfl, rfl⟩ ⟨(Nat.le_of_ble_eq_true rfl), (Nat.le_of_ble_eq_true rfl)⟩ rfl (Nat.le_of_ble_eq_true rfl) dX0_setAnswer_74 rfl ⟨(Nat.le_of_ble_eq_true rfl), (Nat.le_of_ble_eq_true rfl)⟩) 2 (Nat.le_of_ble_eq_true rfl) 3 (Nat.le_of_ble_eq_true rfl) 77 rfl (fun M16 k17 hp18 => ?_)
        obtain ⟨hc20, hF21, hk22⟩ := hp18
        have hH23 := (hF21 _ _ _ (hN15.n (hF10 _ _ _ hM_0 gno0)) (gno (hN15.ne (hF10 _ _ _ hM_0 gno0)) gno0))
        have hH24 := (hF21 _ _ _ (hN15.n (hF10 _ _ _ b0_z3 gno0)) (gno (hN15.ne (hF10 _ _ _ b0_z3 gno0)) gno0))
        have hH25 := (hF21 _ _ _ (hN15.n (hF10 _ _ _ b1_z3 gno0)) (gno (hN15.ne (hF10 _ _ _ b1_z3 gno0)) gno0))
        have hH26 := (hF21 _ _ _ (hN15.n (hF10 _ _ _ hO_z3 gno0)) (gno (hN15.ne (hF10 _ _ _ hO_z3 gno0)) gno0))
        have hH27 : bxP M16 G a_9 id := (bxP.fr hq11 ((gFr.refl.nw hN15).trf hF21 (fun b t e hb hn => (gno (hN15.ne (gFr.refl b t e hb hn)) gno0))))
        have hH28 : isTM M16 G (ta, 16 * k + 6) (ta, 16 * k + 7) an_z39 x_z3.C := (isTM.fr hT_z3 (((gFr.refl.trf hF10 (fun b t e hb hn => gno0)).nw hN15).trf hF21 (fun b t e hb hn => (gno (hN15.ne ((gFr.refl.trf hF10 (fun b t e hb hn => gno0)) b t e hb hn)) gno0))))
        have hH29 : aws M16 x_z3.C x_z3.ad := (aws.fr hw_z3 (((gFr.refl.trf hF10 (fun b t e hb hn => gno0)).nw hN15).trf hF21 (fun b t e hb hn => (gno (hN15.ne ((gFr.refl.trf hF10 (fun b t e hb hn => gno0)) b t e hb hn)) gno0))))
        refine g_callq (g_V (As := [.ref a_9, .ref a13]) (rest := []) hC mvJ9_put q1000 (isTM.of hC.K hH28) (met_TMap_put l G M16 an_z39 (ta, 16 * k + 6) (ta, 16 * k + 7) x_z3.C a_9 id a13 (by simp) (show ta ≠ 0 by omega) (show ta ≠ 0 by omega) hH28 hH27) ⟨rfl, rfl⟩ ⟨(Nat.le_of_ble_eq_true rfl), (Nat.le_of_ble_eq_true rfl)⟩ rfl (Nat.le_of_ble_eq_true rfl) dX0_setAnswer_77 rfl ⟨(Nat.le_of_ble_eq_true rfl), (Nat.le_of_ble_eq_true rfl)⟩) 3 (Nat.le_of_ble_eq_true rfl) 9 (Nat.le_of_ble_eq_true rfl) 80 rfl (fun r33 M30 k31 hp32 => ?_)
        obtain ⟨rfl, hpd34, hF35, hk36⟩ := hp32
        refine g_pop hC dX0_setAnswer_80 gcat_q 81 rfl ?_
        refine g_aload hC dX0_setAnswer_81 0 rfl gRef_r 83 rfl ?_
        refine g_calliP (g_V (As := []) (rest := []) hC mvJ9_size q566 (isTM.of hC.K hpd34) (met_TMap_size l G M30 an_z39 (ta, 16 * k + 6) (ta, 16 * k + 7) (tput x_z3.C id a13) hpd34) ⟨rfl, rfl⟩ ⟨(Nat.le_of_ble_eq_true rfl), (Nat.le_of_ble_eq_true rfl)⟩ rfl (Nat.le_of_ble_eq_true rfl) dX0_setAnswer_83 rfl ⟨(Nat.le_of_ble_eq_true rfl), (Nat.le_of_ble_eq_true rfl)⟩) 86 rfl 9 (Nat.le_of_ble_eq_true rfl) ?_
        refine g_topi (y := nI ((tput x_z3.C id a13).length)) (congrArg nI (show (tput x_z3.C id a13).length = (tput x_z3.C id a13).length by omega)) ?_
        exact g_iret (v := nI ((tput x_z3.C id a13).length)) hC (fun k9 hk9 => ⟨(by rw [if_pos c_2, ← hnC, if_neg (fun q9 => hnf9 ⟨(rA.neg (relN.rA hR_z3)).mp q9.1, q9.2⟩)]; exact (rA.put (relN.rA hR_z3) hnf9 (aws.ne hw_z3 hfr9) (ln_n c_2.2.1)).2.2.1.symm), (by rw [if_pos c_2, ← hnC]; exact hW_z3 _ _ _ _ (Nat.le_refl _) ((show gFr (gT (fun t => tgE ta (16 * k + 6) t ∨ tgE ta (16 * k + 7) t)) M M30 from ((((gFr.refl.trf hF10 (fun b t e hb hn => gno0)).nw hN15).trf hF21 (fun b t e hb hn => (gno (hN15.ne ((gFr.refl.trf hF10 (fun b t e hb hn => gno0)) b t e hb hn)) gno0))).trans (hF35.mono (fun b t h => by obtain ⟨u9, v9⟩ := t; revert h; (try simp only [ndT, tgE, gT, tgR, ndT9, ndW, tg0, Prod.mk.injEq, true_and, and_true, cpyT]); first | done | omega | (simp; done) | (intro h; simp_all; done))))).mono (fun b t q9 => by obtain ⟨u9, v9⟩ := t; simp only [gT, tgE, ndT9] at q9 ⊢; omega)) (isNd.upA hN_z3 hO_z3 (show gFr (gT (fun t => tgE ta (16 * k + 6) t ∨ tgE ta (16 * k + 7) t)) M M30 from ((((gFr.refl.trf hF10 (fun b t e hb hn => gno0)).nw hN15).trf hF21 (fun b t e hb hn => (gno (hN15.ne ((gFr.refl.trf hF10 (fun b t e hb hn => gno0)) b t e hb hn)) gno0))).trans (hF35.mono (fun b t h => by obtain ⟨u9, v9⟩ := t; revert h; (try simp only [ndT, tgE, gT, tgR, ndT9, ndW, tg0, Prod.mk.injEq, true_and, and_true, cpyT]); first | done | omega | (simp; done) | (intro h; simp_all; done))))) hta.1 hpd34 (aws.put hw_z3 (aws.fr hH29 (gFr.refl.trans (hF35.mono (fun b t h => by obtain ⟨u9, v9⟩ := t; revert h; (try simp only [ndT, tgE, gT, tgR, ndT9, ndW, tg0, Prod.mk.injEq, true_and, and_true, cpyT]); first | done | omega | (simp; done) | (intro h; simp_all; done))))) hfr9 (relN.rA hR_z3).1 (hF35 _ _ _ hc20 (show ¬ (fun t => tgE (ta, 16 * k + 6).1 (ta, 16 * k + 6).2 t ∨ tgE (ta, 16 * k + 7).1 (ta, 16 * k + 7).2 t) (0, 2) by (try simp only [ndT, tgE, gT, tgR, ndT9, ndW, tg0, Prod.mk.injEq, true_and, and_true, cpyT]); first | done | omega | (simp; done) | simp_all)))) (relN.answ hR_z3 (rA.put (relN.rA hR_z3) hnf9 (aws.ne hw_z3 hfr9) (ln_n c_2.2.1)) (sAns_o (relN.rA hR_z3).2.1).1) (sAns_o (relN.rA hR_z3).2.1).2), ((((gFr.refl.trf hF10 (fun b t e hb hn => gno0)).nw hN15).trf hF21 (fun b t e hb hn => (gno (hN15.ne ((gFr.refl.trf hF10 (fun b t e hb hn => gno0)) b t e hb hn)) gno0))).trans (hF35.mono (fun b t h => by obtain ⟨u9, v9⟩ := t; revert h; (try simp only [ndT, tgE, gT, tgR, ndT9, ndW, tg0, Prod.mk.injEq, true_and, and_true, cpyT]); first | done | omega | (simp; done) | (intro h; simp_all; done)))), (by first | exact Nat.le_zero.mp hk9 | omega)⟩) dX0_setAnswer_86 (Nat.le_of_ble_eq_true rfl) (Nat.le_of_ble_eq_true rfl)
      · replace c_4 : x_z3.C.length = 4 := nn_eq (by omega) (by omega) c_4
        refine g_aload hC dX0_setAnswer_46 0 rfl gRef_r 48 rfl ?_
        refine g_iload_n hC dX0_setAnswer_48 3 rfl 49 rfl ?_
        refine g_callq (g_S (As := [.int id]) (rest := [.ref an_z39]) hC msJ11_valueOf q570 (met_valueOf l G M id) ⟨rfl, rfl⟩ ⟨(Nat.le_of_ble_eq_true rfl), (Nat.le_of_ble_eq_true rfl)⟩ rfl (Nat.le_of_ble_eq_true rfl) dX0_setAnswer_49 rfl ⟨(Nat.le_of_ble_eq_true rfl), (Nat.le_of_ble_eq_true rfl)⟩) 1 (Nat.le_of_ble_eq_true rfl) 1 (Nat.le_of_ble_eq_true rfl) 52 rfl (fun r40 M37 k38 hp39 => ?_)
        obtain ⟨a_41, rfl, hF42, hq43, hk44⟩ := hp39
        refine g_calliP (g_V (As := [.ref a_41]) (rest := []) hC mvJ9_containsKey q590 (isTM.of hC.K (isTM.fr hT_z3 (gFr.refl.trf hF42 (fun b t e hb hn => gno0)))) (met_TMap_has l G M37 an_z39 (ta, 16 * k + 6) (ta, 16 * k + 7) x_z3.C a_41 id (isTM.fr hT_z3 (gFr.refl.trf hF42 (fun b t e hb hn => gno0))) hq43) ⟨rfl, rfl⟩ ⟨(Nat.le_of_ble_eq_true rfl), (Nat.le_of_ble_eq_true rfl)⟩ rfl (Nat.le_of_ble_eq_true rfl) dX0_setAnswer_52 rfl ⟨(Nat.le_of_ble_eq_true rfl), (Nat.le_of_ble_eq_true rfl)⟩) 55 rfl 1 (Nat.le_of_ble_eq_true rfl) ?_
        refine g_if_ne hC dX0_setAnswer_55 61 rfl 58 rfl (fun c_45 => ?_) (fun c_45 => ?_)
        · have hnf9 : ¬ (tget x_z3.C id = none ∧ x_z3.C.length = 4) := (fun q9 => by have h9 := c_45; rw [q9.1] at h9; exact h9 rfl)
          refine g_aload hC dX0_setAnswer_61 0 rfl gRef_r 63 rfl ?_
          refine g_iload_n hC dX0_setAnswer_63 3 rfl 64 rfl ?_
          refine g_callq (g_S (As := [.int id]) (rest := [.ref an_z39]) hC msJ11_valueOf q570 (met_valueOf l G M37 id) ⟨rfl, rfl⟩ ⟨(Nat.le_of_ble_eq_true rfl), (Nat.le_of_ble_eq_true rfl)⟩ rfl (Nat.le_of_ble_eq_true rfl) dX0_setAnswer_64 rfl ⟨(Nat.le_of_ble_eq_true rfl), (Nat.le_of_ble_eq_true rfl)⟩) 2 (Nat.le_of_ble_eq_true rfl) 2 (Nat.le_of_ble_eq_true rfl) 67 rfl (fun r49 M46 k47 hp48 => ?_)
          obtain ⟨a_50, rfl, hF51, hq52, hk53⟩ := hp48
          refine g_new hC cI9 q985 q986 q135 df9 (0, 2) (Nat.le_of_ble_eq_true rfl) (Nat.le_of_ble_eq_true rfl) 3 (Nat.le_of_ble_eq_true rfl) 4 (Nat.le_of_ble_eq_true rfl) dX0_setAnswer_67 70 rfl (fun a54 M55 hN56 => ?_)
          have hfr9 : M a54 = none := by
            cases hM9 : M a54 with
            | none => rfl
            | some c9 => exact absurd ((show gFr (gT (fun _ => False)) M M46 from ((gFr.refl.trf hF42 (fun b t e hb hn => gno0)).trf hF51 (fun b t e hb hn => gno0))) _ _ _ hM9 (fun q9 => q9)) (by rw [hN56.1]; intro q9; cases q9)
          refine g_dup hC dX0_setAnswer_70 rfl 71 rfl ?_
          refine g_iload_n hC dX0_setAnswer_71 4 rfl 72 rfl ?_
          refine g_iload hC dX0_setAnswer_72 5 rfl 74 rfl ?_
          refine g_callv (g_I (As := [.int ln, .int da]) (rest := [.ref a54, .ref a_50, .ref an_z39]) hC miX10_init q987 (met_An_init l G M55 a54 (0, 2) ln da hN56.2.1) ⟨rfl, rfl⟩ ⟨(Nat.le_of_ble_eq_true rfl), (Nat.le_of_ble_eq_true rfl)⟩ rfl (Nat.le_of_ble_eq_true rfl) dX0_setAnswer_74 rfl ⟨(Nat.le_of_ble_eq_true rfl), (Nat.le_of_ble_eq_true rfl)⟩) 3 (Nat.le_of_ble_eq_true rfl) 4 (Nat.le_of_ble_eq_true rfl) 77 rfl (fun M57 k58 hp59 => ?_)
          obtain ⟨hc61, hF62, hk63⟩ := hp59
          have hH64 := (hF62 _ _ _ (hN56.n (hF51 _ _ _ (hF42 _ _ _ hM_0 gno0) gno0)) (gno (hN56.ne (hF51 _ _ _ (hF42 _ _ _ hM_0 gno0) gno0)) gno0))
          have hH65 := (hF62 _ _ _ (hN56.n (hF51 _ _ _ (hF42 _ _ _ b0_z3 gno0) gno0)) (gno (hN56.ne (hF51 _ _ _ (hF42 _ _ _ b0_z3 gno0) gno0)) gno0))
          have hH66 := (hF62 _ _ _ (hN56.n (hF51 _ _ _ (hF42 _ _ _ b1_z3 gno0) gno0)) (gno (hN56.ne (hF51 _ _ _ (hF42 _ _ _ b1_z3 gno0) gno0)) gno0))
          have hH67 := (hF62 _ _ _ (hN56.n (hF51 _ _ _ (hF42 _ _ _ hO_z3 gno0) gno0)) (gno (hN56.ne (hF51 _ _ _ (hF42 _ _ _ hO_z3 gno0) gno0)) gno0))
          have hH68 : bxP M57 G a_50 id := (bxP.fr hq52 ((gFr.refl.nw hN56).trf hF62 (fun b t e hb hn => (gno (hN56.ne (gFr.refl b t e hb hn)) gno0))))
          have hH69 : bxP M57 G a_41 id := (bxP.fr hq43 (((gFr.refl.trf hF51 (fun b t e hb hn => gno0)).nw hN56).trf hF62 (fun b t e hb hn => (gno (hN56.ne ((gFr.refl.trf hF51 (fun b t e hb hn => gno0)) b t e hb hn)) gno0))))
          have hH70 : isTM M57 G (ta, 16 * k + 6) (ta, 16 * k + 7) an_z39 x_z3.C := (isTM.fr hT_z3 ((((gFr.refl.trf hF42 (fun b t e hb hn => gno0)).trf hF51 (fun b t e hb hn => gno0)).nw hN56).trf hF62 (fun b t e hb hn => (gno (hN56.ne (((gFr.refl.trf hF42 (fun b t e hb hn => gno0)).trf hF51 (fun b t e hb hn => gno0)) b t e hb hn)) gno0))))
          have hH71 : aws M57 x_z3.C x_z3.ad := (aws.fr hw_z3 ((((gFr.refl.trf hF42 (fun b t e hb hn => gno0)).trf hF51 (fun b t e hb hn => gno0)).nw hN56).trf hF62 (fun b t e hb hn => (gno (hN56.ne (((gFr.refl.trf hF42 (fun b t e hb hn => gno0)).trf hF51 (fun b t e hb hn => gno0)) b t e hb hn)) gno0))))
          refine g_callq (g_V (As := [.ref a_50, .ref a54]) (rest := []) hC mvJ9_put q1000 (isTM.of hC.K hH70) (met_TMap_put l G M57 an_z39 (ta, 16 * k + 6) (ta, 16 * k + 7) x_z3.C a_50 id a54 (by simp) (show ta ≠ 0 by omega) (show ta ≠ 0 by omega) hH70 hH68) ⟨rfl, rfl⟩ ⟨(Nat.le_of_ble_eq_true rfl), (Nat.le_of_ble_eq_true rfl)⟩ rfl (Nat.le_of_ble_eq_true rfl) dX0_setAnswer_77 rfl ⟨(Nat.le_of_ble_eq_true rfl), (Nat.le_of_ble_eq_true rfl)⟩) 4 (Nat.le_of_ble_eq_true rfl) 10 (Nat.le_of_ble_eq_true rfl) 80 rfl (fun r75 M72 k73 hp74 => ?_)
          obtain ⟨rfl, hpd76, hF77, hk78⟩ := hp74
          refine g_pop hC dX0_setAnswer_80 gcat_q 81 rfl ?_
          refine g_aload hC dX0_setAnswer_81 0 rfl gRef_r 83 rfl ?_
          refine g_calliP (g_V (As := []) (rest := []) hC mvJ9_size q566 (isTM.of hC.K hpd76) (met_TMap_size l G M72 an_z39 (ta, 16 * k + 6) (ta, 16 * k + 7) (tput x_z3.C id a54) hpd76) ⟨rfl, rfl⟩ ⟨(Nat.le_of_ble_eq_true rfl), (Nat.le_of_ble_eq_true rfl)⟩ rfl (Nat.le_of_ble_eq_true rfl) dX0_setAnswer_83 rfl ⟨(Nat.le_of_ble_eq_true rfl), (Nat.le_of_ble_eq_true rfl)⟩) 86 rfl 10 (Nat.le_of_ble_eq_true rfl) ?_
          refine g_topi (y := nI ((tput x_z3.C id a54).length)) (congrArg nI (show (tput x_z3.C id a54).length = (tput x_z3.C id a54).length by omega)) ?_
          exact g_iret (v := nI ((tput x_z3.C id a54).length)) hC (fun k9 hk9 => ⟨(by rw [if_pos c_2, ← hnC, if_neg (fun q9 => hnf9 ⟨(rA.neg (relN.rA hR_z3)).mp q9.1, q9.2⟩)]; exact (rA.put (relN.rA hR_z3) hnf9 (aws.ne hw_z3 hfr9) (ln_n c_2.2.1)).2.2.1.symm), (by rw [if_pos c_2, ← hnC]; exact hW_z3 _ _ _ _ (Nat.le_refl _) ((show gFr (gT (fun t => tgE ta (16 * k + 6) t ∨ tgE ta (16 * k + 7) t)) M M72 from (((((gFr.refl.trf hF42 (fun b t e hb hn => gno0)).trf hF51 (fun b t e hb hn => gno0)).nw hN56).trf hF62 (fun b t e hb hn => (gno (hN56.ne (((gFr.refl.trf hF42 (fun b t e hb hn => gno0)).trf hF51 (fun b t e hb hn => gno0)) b t e hb hn)) gno0))).trans (hF77.mono (fun b t h => by obtain ⟨u9, v9⟩ := t; revert h; (try simp only [ndT, tgE, gT, tgR, ndT9, ndW, tg0, Prod.mk.injEq, true_and, and_true, cpyT]); first | done | omega | (simp; done) | (intro h; simp_all; done))))).mono (fun b t q9 => by obtain ⟨u9, v9⟩ := t; simp only [gT, tgE, ndT9] at q9 ⊢; omega)) (isNd.upA hN_z3 hO_z3 (show gFr (gT (fun t => tgE ta (16 * k + 6) t ∨ tgE ta (16 * k + 7) t)) M M72 from (((((gFr.refl.trf hF42 (fun b t e hb hn => gno0)).trf hF51 (fun b t e hb hn => gno0)).nw hN56).trf hF62 (fun b t e hb hn => (gno (hN56.ne (((gFr.refl.trf hF42 (fun b t e hb hn => gno0)).trf hF51 (fun b t e hb hn => gno0)) b t e hb hn)) gno0))).trans (hF77.mono (fun b t h => by obtain ⟨u9, v9⟩ := t; revert h; (try simp only [ndT, tgE, gT, tgR, ndT9, ndW, tg0, Prod.mk.injEq, true_and, and_true, cpyT]); first | done | omega | (simp; done) | (intro h; simp_all; done))))) hta.1 hpd76 (aws.put hw_z3 (aws.fr hH71 (gFr.refl.trans (hF77.mono (fun b t h => by obtain ⟨u9, v9⟩ := t; revert h; (try simp only [ndT, tgE, gT, tgR, ndT9, ndW, tg0, Prod.mk.injEq, true_and, and_true, cpyT]); first | done | omega | (simp; done) | (intro h; simp_all; done))))) hfr9 (relN.rA hR_z3).1 (hF77 _ _ _ hc61 (show ¬ (fun t => tgE (ta, 16 * k + 6).1 (ta, 16 * k + 6).2 t ∨ tgE (ta, 16 * k + 7).1 (ta, 16 * k + 7).2 t) (0, 2) by (try simp only [ndT, tgE, gT, tgR, ndT9, ndW, tg0, Prod.mk.injEq, true_and, and_true, cpyT]); first | done | omega | (simp; done) | simp_all)))) (relN.answ hR_z3 (rA.put (relN.rA hR_z3) hnf9 (aws.ne hw_z3 hfr9) (ln_n c_2.2.1)) (sAns_o (relN.rA hR_z3).2.1).1) (sAns_o (relN.rA hR_z3).2.1).2), (((((gFr.refl.trf hF42 (fun b t e hb hn => gno0)).trf hF51 (fun b t e hb hn => gno0)).nw hN56).trf hF62 (fun b t e hb hn => (gno (hN56.ne (((gFr.refl.trf hF42 (fun b t e hb hn => gno0)).trf hF51 (fun b t e hb hn => gno0)) b t e hb hn)) gno0))).trans (hF77.mono (fun b t h => by obtain ⟨u9, v9⟩ := t; revert h; (try simp only [ndT, tgE, gT, tgR, ndT9, ndW, tg0, Prod.mk.injEq, true_and, and_true, cpyT]); first | done | omega | (simp; done) | (intro h; simp_all; done)))), (by first | exact Nat.le_zero.mp hk9 | omega)⟩) dX0_setAnswer_86 (Nat.le_of_ble_eq_true rfl) (Nat.le_of_ble_eq_true rfl)
        · refine g_bipush hC dX0_setAnswer_58 kb_m3 60 rfl ?_
          exact g_iret (v := -3) hC (fun k9 hk9 => ⟨(by rw [if_pos c_2, ← hnC, if_pos ⟨(rA.neg (relN.rA hR_z3)).mpr (isS0 c_45), c_4⟩]), (by rw [if_pos c_2, ← hnC, c_4, sAns_full (by have h9 := (rA.neg (id := id) (relN.rA hR_z3)).mpr (isS0 c_45); rw [c_4] at h9; exact h9)]; exact busR.fr hP_0 ((show gFr (gT (fun _ => False)) M M37 from (gFr.refl.trf hF42 (fun b t e hb hn => gno0))).mono (fun b t q9 => q9.elim))), (gFr.refl.trf hF42 (fun b t e hb hn => gno0)), (by first | exact Nat.le_zero.mp hk9 | omega)⟩) dX0_setAnswer_60 (Nat.le_of_ble_eq_true rfl) (Nat.le_of_ble_eq_true rfl)
    · replace c_2 := bId_0 c_2
      refine g_bipush hC dX0_setAnswer_20 kb_m2 22 rfl ?_
      exact g_iret (v := -2) hC (fun k9 hk9 => ⟨(by rw [if_neg c_2]), (by rw [if_neg c_2]; exact hP_0), gFr.refl, (by first | exact Nat.le_zero.mp hk9 | omega)⟩) dX0_setAnswer_22 (Nat.le_of_ble_eq_true rfl) (Nat.le_of_ble_eq_true rfl)
  · replace c_1 := bId_0 c_1
    exact absurd (nk_in hk) c_1
