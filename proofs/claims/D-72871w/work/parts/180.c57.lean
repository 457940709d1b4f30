/-! the public methods: frameBits, frameBit -/
set_option maxRecDepth 100000
set_option maxHeartbeats 4000000 in
theorem met_X_frameBits (l : Launch) (G : gG) (M : gM) (xa : Nat) (g : Nat → Int32) (id : Int32) (rm : Bool) (ln : Nat) (da : Int32) (hf : okF id rm (nI ln) da) (hln : ln ≤ 4)  : Met l yX0_frameBits (ws_ yX0_frameBits cX0_frameBits 5 (some .int)) ({ frames := 7, cells := 222, slots := 506, locals := 148 }) (gPc G [.ref xa, .int id, .int (bI rm), .int (nI ln), .int da] M) (gQi G (fun r9 M9 k9 => r9 = (obT (laysT g 0 id rm ln da) (byF rm ln + 34) (-1) (2 * (byF rm ln + 34) + 2) 0 0 0 (-1)) ∧ gFr (gT (tgR 9 8 16)) M M9 ∧ k9 ≤ 222)) 222 506 (gA G) := by
  refine gMet [(0, .ref xa), (1, .int id), (2, .int (bI rm)), (3, .int (nI ln)), (4, .int da)] (by decide) (Nat.le_of_ble_eq_true rfl) rfl ?_
  intro p e s m below meth c hC
  refine g_iload_n hC dX0_frameBits_0 1 rfl 1 rfl ?_
  refine g_iload_n hC dX0_frameBits_1 2 rfl 2 rfl ?_
  refine g_iload_n hC dX0_frameBits_2 3 rfl 3 rfl ?_
  refine g_iload hC dX0_frameBits_3 4 rfl 5 rfl ?_
  refine g_calliP (g_S (As := [.int id, .int (bI rm), .int (nI ln), .int da]) (rest := []) hC msX0_isFrame q559 (met_X_isFrame l G M id rm (nI ln) da) ⟨rfl, rfl⟩ ⟨(Nat.le_of_ble_eq_true rfl), (Nat.le_of_ble_eq_true rfl)⟩ rfl (Nat.le_of_ble_eq_true rfl) dX0_frameBits_5 rfl ⟨(Nat.le_of_ble_eq_true rfl), (Nat.le_of_ble_eq_true rfl)⟩) 8 rfl 0 (Nat.le_of_ble_eq_true rfl) ?_
  refine g_if_eq hC dX0_frameBits_8 37 rfl 11 rfl (fun c_1 => ?_) (fun c_1 => ?_)
  · replace c_1 := bId_0 c_1
    exact absurd hf c_1
  · replace c_1 := bId_1 c_1
    refine g_new hC cI11 q2563 q2564 q163 df11 (9, 10) (Nat.le_of_ble_eq_true rfl) (Nat.le_of_ble_eq_true rfl) 1 (Nat.le_of_ble_eq_true rfl) 1 (Nat.le_of_ble_eq_true rfl) dX0_frameBits_11 14 rfl (fun a2 M3 hN4 => ?_)
    refine g_dup hC dX0_frameBits_14 rfl 15 rfl ?_
    refine g_new hC cI8 q2556 q1147 q121 df8 (0, 1) (Nat.le_of_ble_eq_true rfl) (Nat.le_of_ble_eq_true rfl) 2 (Nat.le_of_ble_eq_true rfl) 6 (Nat.le_of_ble_eq_true rfl) dX0_frameBits_15 18 rfl (fun a5 M6 hN7 => ?_)
    refine g_dup hC dX0_frameBits_18 rfl 19 rfl ?_
    refine g_iload_n hC dX0_frameBits_19 1 rfl 20 rfl ?_
    refine g_iload_n hC dX0_frameBits_20 2 rfl 21 rfl ?_
    refine g_iload_n hC dX0_frameBits_21 3 rfl 22 rfl ?_
    refine g_iload hC dX0_frameBits_22 4 rfl 24 rfl ?_
    refine g_iconst hC dX0_frameBits_24 ki_0 25 rfl ?_
    refine g_callv (g_I (As := [.int id, .int (bI rm), .int (nI ln), .int da, .int 0]) (rest := [.ref a5, .ref a2, .ref a2]) hC miX9_init q2557 (met_Fr_init l G M6 a5 (0, 1) id rm (nI ln) da 0 hN7.2.1) ⟨rfl, rfl⟩ ⟨(Nat.le_of_ble_eq_true rfl), (Nat.le_of_ble_eq_true rfl)⟩ rfl (Nat.le_of_ble_eq_true rfl) dX0_frameBits_25 rfl ⟨(Nat.le_of_ble_eq_true rfl), (Nat.le_of_ble_eq_true rfl)⟩) 2 (Nat.le_of_ble_eq_true rfl) 6 (Nat.le_of_ble_eq_true rfl) 28 rfl (fun M8 k9 hp10 => ?_)
    obtain ⟨hc12, hF13, hk14⟩ := hp10
    have hH15 := (hF13 _ _ _ (hN7.n hN4.2.1) (gno (hN7.ne hN4.2.1) gno0))
    refine g_callv (g_I (As := [.ref a5]) (rest := [.ref a2]) hC miX15_init q2565 (met_W_init l G M8 a2 (9, 10) a5 hH15) ⟨rfl, rfl⟩ ⟨(Nat.le_of_ble_eq_true rfl), (Nat.le_of_ble_eq_true rfl)⟩ rfl (Nat.le_of_ble_eq_true rfl) dX0_frameBits_28 rfl ⟨(Nat.le_of_ble_eq_true rfl), (Nat.le_of_ble_eq_true rfl)⟩) 2 (Nat.le_of_ble_eq_true rfl) 6 (Nat.le_of_ble_eq_true rfl) 31 rfl (fun M16 k17 hp18 => ?_)
    obtain ⟨hc20, hF21, hk22⟩ := hp18
    refine g_calli (g_V (As := []) (rest := []) hC mvX15_bits q2574 (gOf.of hC.K cI11 hc20) (met_W_bits l G M16 a2 a5 id rm ln da 0 hln hc20 (hF21 _ _ _ hc12 (gno (Ne.symm (hN7.ne hN4.2.1)) gno0))) ⟨rfl, rfl⟩ ⟨(Nat.le_of_ble_eq_true rfl), (Nat.le_of_ble_eq_true rfl)⟩ rfl (Nat.le_of_ble_eq_true rfl) dX0_frameBits_31 rfl ⟨(Nat.le_of_ble_eq_true rfl), (Nat.le_of_ble_eq_true rfl)⟩) 222 (Nat.le_of_ble_eq_true rfl) 506 (Nat.le_of_ble_eq_true rfl) 34 rfl (fun r26 M23 k24 hp25 => ?_)
    obtain ⟨rfl, hF27, hk28⟩ := hp25
    refine g_goto hC dX0_frameBits_34 39 rfl ?_
    exact g_iret (v := obT (frBT id rm ln da) (byF rm ln + 34) (-1) (2 * (byF rm ln + 34) + 2) 0 0 0 (-1)) hC (fun k9 hk9 => ⟨(obT_lays hln _ _ _ _ _), (((((gFr.refl.nw hN4).nw hN7).trf hF13 (fun b t e hb hn => (gno (hN7.ne ((gFr.refl.nw hN4) b t e hb hn)) gno0))).trf hF21 (fun b t e hb hn => (gno (hN4.ne (gFr.refl b t e hb hn)) gno0))).trans (hF27.mono (fun b t h => by obtain ⟨u9, v9⟩ := t; revert h; (try simp only [ndT, tgE, gT, tgR, ndT9, ndW, tg0, Prod.mk.injEq, true_and, and_true, cpyT]); first | done | omega | (simp; done) | (intro h; simp_all; done)))), (by first | exact Nat.le_zero.mp hk9 | omega)⟩) dX0_frameBits_39 (Nat.le_of_ble_eq_true rfl) (Nat.le_of_ble_eq_true rfl)
set_option maxHeartbeats 4000000 in
theorem met_X_frameBit (l : Launch) (G : gG) (M : gM) (xa : Nat) (g : Nat → Int32) (id : Int32) (rm : Bool) (ln : Nat) (da : Int32) (i : Nat) (hf : okF id rm (nI ln) da) (hln : ln ≤ 4) (hi : i < 2147483648)  : Met l yX0_frameBit (ws_ yX0_frameBit cX0_frameBit 6 (some .int)) ({ frames := 7, cells := 222, slots := 506, locals := 149 }) (gPc G [.ref xa, .int id, .int (bI rm), .int (nI ln), .int da, .int (nI i)] M) (gQi G (fun r9 M9 k9 => r9 = (obT (laysT g 0 id rm ln da) (byF rm ln + 34) (nI i) (2 * (byF rm ln + 34) + 2) 0 0 0 (-1)) ∧ gFr (gT (tgR 9 8 16)) M M9 ∧ k9 ≤ 222)) 222 506 (gA G) := by
  refine gMet [(0, .ref xa), (1, .int id), (2, .int (bI rm)), (3, .int (nI ln)), (4, .int da), (5, .int (nI i))] (by decide) (Nat.le_of_ble_eq_true rfl) rfl ?_
  intro p e s m below meth c hC
  refine g_iload_n hC dX0_frameBit_0 1 rfl 1 rfl ?_
  refine g_iload_n hC dX0_frameBit_1 2 rfl 2 rfl ?_
  refine g_iload_n hC dX0_frameBit_2 3 rfl 3 rfl ?_
  refine g_iload hC dX0_frameBit_3 4 rfl 5 rfl ?_
  refine g_calliP (g_S (As := [.int id, .int (bI rm), .int (nI ln), .int da]) (rest := []) hC msX0_isFrame q559 (met_X_isFrame l G M id rm (nI ln) da) ⟨rfl, rfl⟩ ⟨(Nat.le_of_ble_eq_true rfl), (Nat.le_of_ble_eq_true rfl)⟩ rfl (Nat.le_of_ble_eq_true rfl) dX0_frameBit_5 rfl ⟨(Nat.le_of_ble_eq_true rfl), (Nat.le_of_ble_eq_true rfl)⟩) 8 rfl 0 (Nat.le_of_ble_eq_true rfl) ?_
  refine g_if_ne hC dX0_frameBit_8 14 rfl 11 rfl (fun c_1 => ?_) (fun c_1 => ?_)
  · replace c_1 := bId_1 c_1
    refine g_iload hC dX0_frameBit_14 5 rfl 16 rfl ?_
    refine g_if_ge hC dX0_frameBit_16 24 rfl 19 rfl (fun c_2 => ?_) (fun c_2 => ?_)
    · replace c_2 : 0 ≤ i := nn_le (by omega) (by omega) c_2
      refine g_new hC cI11 q2563 q2564 q163 df11 (9, 10) (Nat.le_of_ble_eq_true rfl) (Nat.le_of_ble_eq_true rfl) 1 (Nat.le_of_ble_eq_true rfl) 1 (Nat.le_of_ble_eq_true rfl) dX0_frameBit_24 27 rfl (fun a3 M4 hN5 => ?_)
      refine g_dup hC dX0_frameBit_27 rfl 28 rfl ?_
      refine g_new hC cI8 q2556 q1147 q121 df8 (0, 1) (Nat.le_of_ble_eq_true rfl) (Nat.le_of_ble_eq_true rfl) 2 (Nat.le_of_ble_eq_true rfl) 6 (Nat.le_of_ble_eq_true rfl) dX0_frameBit_28 31 rfl (fun a6 M7 hN8 => ?_)
      refine g_dup hC dX0_frameBit_31 rfl 32 rfl ?_
      refine g_iload_n hC dX0_frameBit_32 1 rfl 33 rfl ?_
      refine g_iload_n hC dX0_frameBit_33 2 rfl 34 rfl ?_
      refine g_iload_n hC dX0_frameBit_34 3 rfl 35 rfl ?_
      refine g_iload hC dX0_frameBit_35 4 rfl 37 rfl ?_
      refine g_iconst hC dX0_frameBit_37 ki_0 38 rfl ?_
      refine g_callv (g_I (As := [.int id, .int (bI rm), .int (nI ln), .int da, .int 0]) (rest := [.ref a6, .ref a3, .ref a3]) hC miX9_init q2557 (met_Fr_init l G M7 a6 (0, 1) id rm (nI ln) da 0 hN8.2.1) ⟨rfl, rfl⟩ ⟨(Nat.le_of_ble_eq_true rfl), (Nat.le_of_ble_eq_true rfl)⟩ rfl (Nat.le_of_ble_eq_true rfl) dX0_frameBit_38 rfl ⟨(Nat.le_of_ble_eq_true rfl), (Nat.le_of_ble_eq_true rfl)⟩) 2 (Nat.le_of_ble_eq_true rfl) 6 (Nat.le_of_ble_eq_true rfl) 41 rfl (fun M9 k10 hp11 => ?_)
      obtain ⟨hc13, hF14, hk15⟩ := hp11
      have hH16 := (hF14 _ _ _ (hN8.n hN5.2.1) (gno (hN8.ne hN5.2.1) gno0))
      refine g_callv (g_I (As := [.ref a6]) (rest := [.ref a3]) hC miX15_init q2565 (met_W_init l G M9 a3 (9, 10) a6 hH16) ⟨rfl, rfl⟩ ⟨(Nat.le_of_ble_eq_true rfl), (Nat.le_of_ble_eq_true rfl)⟩ rfl (Nat.le_of_ble_eq_true rfl) dX0_frameBit_41 rfl ⟨(Nat.le_of_ble_eq_true rfl), (Nat.le_of_ble_eq_true rfl)⟩) 2 (Nat.le_of_ble_eq_true rfl) 6 (Nat.le_of_ble_eq_true rfl) 44 rfl (fun M17 k18 hp19 => ?_)
      obtain ⟨hc21, hF22, hk23⟩ := hp19
      refine g_iload hC dX0_frameBit_44 5 rfl 46 rfl ?_
      refine g_calli (g_V (As := [.int (nI i)]) (rest := []) hC mvX15_bit q2612 (gOf.of hC.K cI11 hc21) (met_W_bit l G M17 a3 a6 id rm ln da 0 i hln hi hc21 (hF22 _ _ _ hc13 (gno (Ne.symm (hN8.ne hN5.2.1)) gno0))) ⟨rfl, rfl⟩ ⟨(Nat.le_of_ble_eq_true rfl), (Nat.le_of_ble_eq_true rfl)⟩ rfl (Nat.le_of_ble_eq_true rfl) dX0_frameBit_46 rfl ⟨(Nat.le_of_ble_eq_true rfl), (Nat.le_of_ble_eq_true rfl)⟩) 222 (Nat.le_of_ble_eq_true rfl) 506 (Nat.le_of_ble_eq_true rfl) 49 rfl (fun r27 M24 k25 hp26 => ?_)
      obtain ⟨rfl, hF28, hk29⟩ := hp26
      exact g_iret (v := obT (frBT id rm ln da) (byF rm ln + 34) (nI i) (2 * (byF rm ln + 34) + 2) 0 0 0 (-1)) hC (fun k9 hk9 => ⟨(obT_lays hln _ _ _ _ _), (((((gFr.refl.nw hN5).nw hN8).trf hF14 (fun b t e hb hn => (gno (hN8.ne ((gFr.refl.nw hN5) b t e hb hn)) gno0))).trf hF22 (fun b t e hb hn => (gno (hN5.ne (gFr.refl b t e hb hn)) gno0))).trans (hF28.mono (fun b t h => by obtain ⟨u9, v9⟩ := t; revert h; (try simp only [ndT, tgE, gT, tgR, ndT9, ndW, tg0, Prod.mk.injEq, true_and, and_true, cpyT]); first | done | omega | (simp; done) | (intro h; simp_all; done)))), (by first | exact Nat.le_zero.mp hk9 | omega)⟩) dX0_frameBit_49 (Nat.le_of_ble_eq_true rfl) (Nat.le_of_ble_eq_true rfl)
    · exact absurd (show i < 0 from nn_nle (by omega) (by omega) c_2) (by omega)
  · replace c_1 := bId_0 c_1
    exact absurd hf c_1
