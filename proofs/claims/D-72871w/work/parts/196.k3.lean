/-! the law's cases 11 to 19 -/
set_option maxRecDepth 100000
set_option maxHeartbeats 4000000 in
theorem lwc_11 {nm : String} {p : Program} {l : Launch} {e : Env} {s : State} {m : MethodId} {args : Array Value} {below : List Frame} {meth : Method} {c : Code} {G : gG} {Q : State → Prop} {M : gM} {b L x m0 q j : Nat} {xs : Nat → Int32} (hC : gC p s m args meth c G 4 cL_law "ArbitratedBusLaw" nm (some .boolean)) (hX : va_X b L xs s s.heap) (hbz : b < s.heap.size ∧ b < gz G) (hL : L ≤ 384) (hj : 6 * j + 6 ≤ L) (hqj : q ≤ 1100 * j) (hI : LW M G x m0 q) (ih : ∀ M', LW M' G x m0 (q + 1100) → gJ p l e room_1 s m args below meth c G 4 Q (9200 * (j + 1) + 300) (70000 * (j + 1) + 20000) M' 1649 [(0, .ref b), (1, .ref x), (2, .ref m0), (3, .int (nI (6 * j)))] []) : gJ p l e room_1 s m args below meth c G 4 Q (9200 * j + 300) (70000 * j + 20000) M 639 [(0, .ref b), (1, .ref x), (2, .ref m0), (3, .int (nI (6 * j)))] [] := by
  obtain ⟨ta, of, sv, ms, tx, lc, av, asp, ak, aik, atx, am, mc, aa, pc_, ato, t0, t1, f, txf, sp, kf, ik, gm, ga, gt, A, ⟨⟨hta2, hta6⟩, ⟨ht02, ht06⟩, ⟨ht12, ht16⟩, ha0, ha1, h01, hlc, hpc, hmc⟩, htx, hM_0, hM_1, hM_2, hM_3, hM_4, hM_5, hM_6, hM_7, hM_8, hM_9, hM_10, hM_11, hB, hS0, hS1, hMs⟩ := hI
  have hokA := busR.ok hB (by omega)
  by_cases hx : (0 ≤ xs (6 * j + 1) ∧ xs (6 * j + 1) ≤ 3)
  · obtain ⟨k, hk, ek⟩ := nk_of hx
    refine g_aload_n hC dL_law_639 1 rfl gRef_r 640 rfl ?_
    refine g_aload_n hC dL_law_640 0 rfl gRef_r 641 rfl ?_
    refine g_iload_n hC dL_law_641 3 rfl 642 rfl ?_
    refine g_iconst hC dL_law_642 ki_1 643 rfl ?_
    refine g_iadd hC dL_law_643 644 rfl ?_
    refine g_topi (y := nI (6 * j + 1)) (nI_a (a := (6 * j)) (b := 1) (c := (6 * j + 1)) (by omega)) ?_
    refine g_scr hC hX hbz (i := 6 * j + 1) (by omega) hL dL_law_644 645 rfl ?_
    refine g_topi (y := nI k) ek ?_
    refine g_calliP (g_V (As := [.int (nI k)]) (rest := []) hC mvX0_phase q2315 (gOf.of hC.K cI0 hM_0) (met_X_phase l G M x sv ms tx (nI lc) ta of f q k ⟨by omega, by omega⟩ hk hM_0 hB) ⟨rfl, rfl⟩ ⟨(Nat.le_of_ble_eq_true rfl), (Nat.le_of_ble_eq_true rfl)⟩ rfl (Nat.le_of_ble_eq_true rfl) dL_law_645 rfl ⟨(by first | omega | exact Nat.le_of_ble_eq_true rfl | (show _ ≤ 601471; omega) | (show _ ≤ 7291690; omega)), (by first | omega | exact Nat.le_of_ble_eq_true rfl | (show _ ≤ 601471; omega) | (show _ ≤ 7291690; omega))⟩) 648 rfl (70000 * j + 20000) (by first | omega | exact Nat.le_of_ble_eq_true rfl | (show _ ≤ 601471; omega) | (show _ ≤ 7291690; omega)) ?_
    refine g_aload_n hC dL_law_648 2 rfl gRef_r 649 rfl ?_
    refine g_aload_n hC dL_law_649 0 rfl gRef_r 650 rfl ?_
    refine g_iload_n hC dL_law_650 3 rfl 651 rfl ?_
    refine g_iconst hC dL_law_651 ki_1 652 rfl ?_
    refine g_iadd hC dL_law_652 653 rfl ?_
    refine g_topi (y := nI (6 * j + 1)) (nI_a (a := (6 * j)) (b := 1) (c := (6 * j + 1)) (by omega)) ?_
    refine g_scr hC hX hbz (i := 6 * j + 1) (by omega) hL dL_law_653 654 rfl ?_
    refine g_topi (y := nI k) ek ?_
    refine g_calliP (g_V (As := [.int (nI k)]) (rest := [.int (f (256 * k + 0))]) hC mvX8_phase q3203 (gOf.of hC.K cI7 hM_3) (met_T_phase l G M m0 av asp ak aik atx (nI lc) am (nI mc) aa (nI pc_) ato f k hk hM_3 hM_4) ⟨rfl, rfl⟩ ⟨(Nat.le_of_ble_eq_true rfl), (Nat.le_of_ble_eq_true rfl)⟩ rfl (Nat.le_of_ble_eq_true rfl) dL_law_654 rfl ⟨(by first | omega | exact Nat.le_of_ble_eq_true rfl | (show _ ≤ 601471; omega) | (show _ ≤ 7291690; omega)), (by first | omega | exact Nat.le_of_ble_eq_true rfl | (show _ ≤ 601471; omega) | (show _ ≤ 7291690; omega))⟩) 657 rfl (70000 * j + 20000) (by first | omega | exact Nat.le_of_ble_eq_true rfl | (show _ ≤ 601471; omega) | (show _ ≤ 7291690; omega)) ?_
    refine g_icmp_eq hC dL_law_657 1649 rfl 660 rfl (fun c_1 => ?_) (fun c_1 => ?_)
    · exact ih M ⟨ta, of, sv, ms, tx, lc, av, asp, ak, aik, atx, am, mc, aa, pc_, ato, t0, t1, f, txf, sp, kf, ik, gm, ga, gt, A, ⟨⟨by omega, by omega⟩, ⟨by omega, by omega⟩, ⟨by omega, by omega⟩, by omega, by omega, by omega, by omega, by omega, by omega⟩, htx, hM_0, hM_1, hM_2, hM_3, hM_4, hM_5, hM_6, hM_7, hM_8, hM_9, hM_10, hM_11, busR.mono hB (by omega), (hS0.mono (by omega)), (hS1.mono (by omega)), hMs⟩
    · exact absurd rfl c_1
  · refine g_aload_n hC dL_law_639 1 rfl gRef_r 640 rfl ?_
    refine g_aload_n hC dL_law_640 0 rfl gRef_r 641 rfl ?_
    refine g_iload_n hC dL_law_641 3 rfl 642 rfl ?_
    refine g_iconst hC dL_law_642 ki_1 643 rfl ?_
    refine g_iadd hC dL_law_643 644 rfl ?_
    refine g_topi (y := nI (6 * j + 1)) (nI_a (a := (6 * j)) (b := 1) (c := (6 * j + 1)) (by omega)) ?_
    refine g_scr hC hX hbz (i := 6 * j + 1) (by omega) hL dL_law_644 645 rfl ?_
    refine g_calliP (g_V (As := [.int (xs (6 * j + 1))]) (rest := []) hC mvX0_phase q2315 (gOf.of hC.K cI0 hM_0) (met_X_phase_n l G M x sv ms tx (nI lc) ta of f q (xs (6 * j + 1)) hx hM_0) ⟨rfl, rfl⟩ ⟨(Nat.le_of_ble_eq_true rfl), (Nat.le_of_ble_eq_true rfl)⟩ rfl (Nat.le_of_ble_eq_true rfl) dL_law_645 rfl ⟨(by first | omega | exact Nat.le_of_ble_eq_true rfl | (show _ ≤ 601471; omega) | (show _ ≤ 7291690; omega)), (by first | omega | exact Nat.le_of_ble_eq_true rfl | (show _ ≤ 601471; omega) | (show _ ≤ 7291690; omega))⟩) 648 rfl (70000 * j + 20000) (by first | omega | exact Nat.le_of_ble_eq_true rfl | (show _ ≤ 601471; omega) | (show _ ≤ 7291690; omega)) ?_
    refine g_aload_n hC dL_law_648 2 rfl gRef_r 649 rfl ?_
    refine g_aload_n hC dL_law_649 0 rfl gRef_r 650 rfl ?_
    refine g_iload_n hC dL_law_650 3 rfl 651 rfl ?_
    refine g_iconst hC dL_law_651 ki_1 652 rfl ?_
    refine g_iadd hC dL_law_652 653 rfl ?_
    refine g_topi (y := nI (6 * j + 1)) (nI_a (a := (6 * j)) (b := 1) (c := (6 * j + 1)) (by omega)) ?_
    refine g_scr hC hX hbz (i := 6 * j + 1) (by omega) hL dL_law_653 654 rfl ?_
    refine g_calliP (g_V (As := [.int (xs (6 * j + 1))]) (rest := [.int (-1)]) hC mvX8_phase q3203 (gOf.of hC.K cI7 hM_3) (met_T_phase_n l G M m0 av asp ak aik atx (nI lc) am (nI mc) aa (nI pc_) ato f (xs (6 * j + 1)) hx hM_3 hM_4) ⟨rfl, rfl⟩ ⟨(Nat.le_of_ble_eq_true rfl), (Nat.le_of_ble_eq_true rfl)⟩ rfl (Nat.le_of_ble_eq_true rfl) dL_law_654 rfl ⟨(by first | omega | exact Nat.le_of_ble_eq_true rfl | (show _ ≤ 601471; omega) | (show _ ≤ 7291690; omega)), (by first | omega | exact Nat.le_of_ble_eq_true rfl | (show _ ≤ 601471; omega) | (show _ ≤ 7291690; omega))⟩) 657 rfl (70000 * j + 20000) (by first | omega | exact Nat.le_of_ble_eq_true rfl | (show _ ≤ 601471; omega) | (show _ ≤ 7291690; omega)) ?_
    refine g_icmp_eq hC dL_law_657 1649 rfl 660 rfl (fun c_2 => ?_) (fun c_2 => ?_)
    · exact ih M ⟨ta, of, sv, ms, tx, lc, av, asp, ak, aik, atx, am, mc, aa, pc_, ato, t0, t1, f, txf, sp, kf, ik, gm, ga, gt, A, ⟨⟨by omega, by omega⟩, ⟨by omega, by omega⟩, ⟨by omega, by omega⟩, by omega, by omega, by omega, by omega, by omega, by omega⟩, htx, hM_0, hM_1, hM_2, hM_3, hM_4, hM_5, hM_6, hM_7, hM_8, hM_9, hM_10, hM_11, busR.mono hB (by omega), (hS0.mono (by omega)), (hS1.mono (by omega)), hMs⟩
    · exact absurd c_2 (by decide)
set_option maxHeartbeats 4000000 in
theorem lwc_12 {nm : String} {p : Program} {l : Launch} {e : Env} {s : State} {m : MethodId} {args : Array Value} {below : List Frame} {meth : Method} {c : Code} {G : gG} {Q : State → Prop} {M : gM} {b L x m0 q j : Nat} {xs : Nat → Int32} (hC : gC p s m args meth c G 4 cL_law "ArbitratedBusLaw" nm (some .boolean)) (hX : va_X b L xs s s.heap) (hbz : b < s.heap.size ∧ b < gz G) (hL : L ≤ 384) (hj : 6 * j + 6 ≤ L) (hqj : q ≤ 1100 * j) (hI : LW M G x m0 q) (ih : ∀ M', LW M' G x m0 (q + 1100) → gJ p l e room_1 s m args below meth c G 4 Q (9200 * (j + 1) + 300) (70000 * (j + 1) + 20000) M' 1649 [(0, .ref b), (1, .ref x), (2, .ref m0), (3, .int (nI (6 * j)))] []) : gJ p l e room_1 s m args below meth c G 4 Q (9200 * j + 300) (70000 * j + 20000) M 662 [(0, .ref b), (1, .ref x), (2, .ref m0), (3, .int (nI (6 * j)))] [] := by
  obtain ⟨ta, of, sv, ms, tx, lc, av, asp, ak, aik, atx, am, mc, aa, pc_, ato, t0, t1, f, txf, sp, kf, ik, gm, ga, gt, A, ⟨⟨hta2, hta6⟩, ⟨ht02, ht06⟩, ⟨ht12, ht16⟩, ha0, ha1, h01, hlc, hpc, hmc⟩, htx, hM_0, hM_1, hM_2, hM_3, hM_4, hM_5, hM_6, hM_7, hM_8, hM_9, hM_10, hM_11, hB, hS0, hS1, hMs⟩ := hI
  have hokA := busR.ok hB (by omega)
  by_cases hx : (0 ≤ xs (6 * j + 1) ∧ xs (6 * j + 1) ≤ 3)
  · obtain ⟨k, hk, ek⟩ := nk_of hx
    refine g_aload_n hC dL_law_662 1 rfl gRef_r 663 rfl ?_
    refine g_aload_n hC dL_law_663 0 rfl gRef_r 664 rfl ?_
    refine g_iload_n hC dL_law_664 3 rfl 665 rfl ?_
    refine g_iconst hC dL_law_665 ki_1 666 rfl ?_
    refine g_iadd hC dL_law_666 667 rfl ?_
    refine g_topi (y := nI (6 * j + 1)) (nI_a (a := (6 * j)) (b := 1) (c := (6 * j + 1)) (by omega)) ?_
    refine g_scr hC hX hbz (i := 6 * j + 1) (by omega) hL dL_law_667 668 rfl ?_
    refine g_topi (y := nI k) ek ?_
    refine g_calliP (g_V (As := [.int (nI k)]) (rest := []) hC mvX0_isTransmitter q2319 (gOf.of hC.K cI0 hM_0) (met_X_isTransmitter l G M x sv ms tx (nI lc) ta of f q k ⟨by omega, by omega⟩ hk hM_0 hB) ⟨rfl, rfl⟩ ⟨(Nat.le_of_ble_eq_true rfl), (Nat.le_of_ble_eq_true rfl)⟩ rfl (Nat.le_of_ble_eq_true rfl) dL_law_668 rfl ⟨(by first | omega | exact Nat.le_of_ble_eq_true rfl | (show _ ≤ 601471; omega) | (show _ ≤ 7291690; omega)), (by first | omega | exact Nat.le_of_ble_eq_true rfl | (show _ ≤ 601471; omega) | (show _ ≤ 7291690; omega))⟩) 671 rfl (70000 * j + 20000) (by first | omega | exact Nat.le_of_ble_eq_true rfl | (show _ ≤ 601471; omega) | (show _ ≤ 7291690; omega)) ?_
    refine g_aload_n hC dL_law_671 2 rfl gRef_r 672 rfl ?_
    refine g_aload_n hC dL_law_672 0 rfl gRef_r 673 rfl ?_
    refine g_iload_n hC dL_law_673 3 rfl 674 rfl ?_
    refine g_iconst hC dL_law_674 ki_1 675 rfl ?_
    refine g_iadd hC dL_law_675 676 rfl ?_
    refine g_topi (y := nI (6 * j + 1)) (nI_a (a := (6 * j)) (b := 1) (c := (6 * j + 1)) (by omega)) ?_
    refine g_scr hC hX hbz (i := 6 * j + 1) (by omega) hL dL_law_676 677 rfl ?_
    refine g_topi (y := nI k) ek ?_
    refine g_calliP (g_V (As := [.int (nI k)]) (rest := [.int (f (256 * k + 1))]) hC mvX8_isTransmitter q3211 (gOf.of hC.K cI7 hM_3) (met_T_isTransmitter l G M m0 av asp ak aik atx (nI lc) am (nI mc) aa (nI pc_) ato f k hk hM_3 hM_4) ⟨rfl, rfl⟩ ⟨(Nat.le_of_ble_eq_true rfl), (Nat.le_of_ble_eq_true rfl)⟩ rfl (Nat.le_of_ble_eq_true rfl) dL_law_677 rfl ⟨(by first | omega | exact Nat.le_of_ble_eq_true rfl | (show _ ≤ 601471; omega) | (show _ ≤ 7291690; omega)), (by first | omega | exact Nat.le_of_ble_eq_true rfl | (show _ ≤ 601471; omega) | (show _ ≤ 7291690; omega))⟩) 680 rfl (70000 * j + 20000) (by first | omega | exact Nat.le_of_ble_eq_true rfl | (show _ ≤ 601471; omega) | (show _ ≤ 7291690; omega)) ?_
    refine g_icmp_eq hC dL_law_680 1649 rfl 683 rfl (fun c_1 => ?_) (fun c_1 => ?_)
    · exact ih M ⟨ta, of, sv, ms, tx, lc, av, asp, ak, aik, atx, am, mc, aa, pc_, ato, t0, t1, f, txf, sp, kf, ik, gm, ga, gt, A, ⟨⟨by omega, by omega⟩, ⟨by omega, by omega⟩, ⟨by omega, by omega⟩, by omega, by omega, by omega, by omega, by omega, by omega⟩, htx, hM_0, hM_1, hM_2, hM_3, hM_4, hM_5, hM_6, hM_7, hM_8, hM_9, hM_10, hM_11, busR.mono hB (by omega), (hS0.mono (by omega)), (hS1.mono (by omega)), hMs⟩
    · exact absurd rfl c_1
  · refine g_aload_n hC dL_law_662 1 rfl gRef_r 663 rfl ?_
    refine g_aload_n hC dL_law_663 0 rfl gRef_r 664 rfl ?_
    refine g_iload_n hC dL_law_664 3 rfl 665 rfl ?_
    refine g_iconst hC dL_law_665 ki_1 666 rfl ?_
    refine g_iadd hC dL_law_666 667 rfl ?_
    refine g_topi (y := nI (6 * j + 1)) (nI_a (a := (6 * j)) (b := 1) (c := (6 * j + 1)) (by omega)) ?_
    refine g_scr hC hX hbz (i := 6 * j + 1) (by omega) hL dL_law_667 668 rfl ?_
    refine g_calliP (g_V (As := [.int (xs (6 * j + 1))]) (rest := []) hC mvX0_isTransmitter q2319 (gOf.of hC.K cI0 hM_0) (met_X_isTransmitter_n l G M x sv ms tx (nI lc) ta of f q (xs (6 * j + 1)) hx hM_0) ⟨rfl, rfl⟩ ⟨(Nat.le_of_ble_eq_true rfl), (Nat.le_of_ble_eq_true rfl)⟩ rfl (Nat.le_of_ble_eq_true rfl) dL_law_668 rfl ⟨(by first | omega | exact Nat.le_of_ble_eq_true rfl | (show _ ≤ 601471; omega) | (show _ ≤ 7291690; omega)), (by first | omega | exact Nat.le_of_ble_eq_true rfl | (show _ ≤ 601471; omega) | (show _ ≤ 7291690; omega))⟩) 671 rfl (70000 * j + 20000) (by first | omega | exact Nat.le_of_ble_eq_true rfl | (show _ ≤ 601471; omega) | (show _ ≤ 7291690; omega)) ?_
    refine g_aload_n hC dL_law_671 2 rfl gRef_r 672 rfl ?_
    refine g_aload_n hC dL_law_672 0 rfl gRef_r 673 rfl ?_
    refine g_iload_n hC dL_law_673 3 rfl 674 rfl ?_
    refine g_iconst hC dL_law_674 ki_1 675 rfl ?_
    refine g_iadd hC dL_law_675 676 rfl ?_
    refine g_topi (y := nI (6 * j + 1)) (nI_a (a := (6 * j)) (b := 1) (c := (6 * j + 1)) (by omega)) ?_
    refine g_scr hC hX hbz (i := 6 * j + 1) (by omega) hL dL_law_676 677 rfl ?_
    refine g_calliP (g_V (As := [.int (xs (6 * j + 1))]) (rest := [.int (-1)]) hC mvX8_isTransmitter q3211 (gOf.of hC.K cI7 hM_3) (met_T_isTransmitter_n l G M m0 av asp ak aik atx (nI lc) am (nI mc) aa (nI pc_) ato f (xs (6 * j + 1)) hx hM_3 hM_4) ⟨rfl, rfl⟩ ⟨(Nat.le_of_ble_eq_true rfl), (Nat.le_of_ble_eq_true rfl)⟩ rfl (Nat.le_of_ble_eq_true rfl) dL_law_677 rfl ⟨(by first | omega | exact Nat.le_of_ble_eq_true rfl | (show _ ≤ 601471; omega) | (show _ ≤ 7291690; omega)), (by first | omega | exact Nat.le_of_ble_eq_true rfl | (show _ ≤ 601471; omega) | (show _ ≤ 7291690; omega))⟩) 680 rfl (70000 * j + 20000) (by first | omega | exact Nat.le_of_ble_eq_true rfl | (show _ ≤ 601471; omega) | (show _ ≤ 7291690; omega)) ?_
    refine g_icmp_eq hC dL_law_680 1649 rfl 683 rfl (fun c_2 => ?_) (fun c_2 => ?_)
    · exact ih M ⟨ta, of, sv, ms, tx, lc, av, asp, ak, aik, atx, am, mc, aa, pc_, ato, t0, t1, f, txf, sp, kf, ik, gm, ga, gt, A, ⟨⟨by omega, by omega⟩, ⟨by omega, by omega⟩, ⟨by omega, by omega⟩, by omega, by omega, by omega, by omega, by omega, by omega⟩, htx, hM_0, hM_1, hM_2, hM_3, hM_4, hM_5, hM_6, hM_7, hM_8, hM_9, hM_10, hM_11, busR.mono hB (by omega), (hS0.mono (by omega)), (hS1.mono (by omega)), hMs⟩
    · exact absurd c_2 (by decide)
set_option maxHeartbeats 4000000 in
theorem lwc_13 {nm : String} {p : Program} {l : Launch} {e : Env} {s : State} {m : MethodId} {args : Array Value} {below : List Frame} {meth : Method} {c : Code} {G : gG} {Q : State → Prop} {M : gM} {b L x m0 q j : Nat} {xs : Nat → Int32} (hC : gC p s m args meth c G 4 cL_law "ArbitratedBusLaw" nm (some .boolean)) (hX : va_X b L xs s s.heap) (hbz : b < s.heap.size ∧ b < gz G) (hL : L ≤ 384) (hj : 6 * j + 6 ≤ L) (hqj : q ≤ 1100 * j) (hI : LW M G x m0 q) (ih : ∀ M', LW M' G x m0 (q + 1100) → gJ p l e room_1 s m args below meth c G 4 Q (9200 * (j + 1) + 300) (70000 * (j + 1) + 20000) M' 1649 [(0, .ref b), (1, .ref x), (2, .ref m0), (3, .int (nI (6 * j)))] []) : gJ p l e room_1 s m args below meth c G 4 Q (9200 * j + 300) (70000 * j + 20000) M 685 [(0, .ref b), (1, .ref x), (2, .ref m0), (3, .int (nI (6 * j)))] [] := by
  obtain ⟨ta, of, sv, ms, tx, lc, av, asp, ak, aik, atx, am, mc, aa, pc_, ato, t0, t1, f, txf, sp, kf, ik, gm, ga, gt, A, ⟨⟨hta2, hta6⟩, ⟨ht02, ht06⟩, ⟨ht12, ht16⟩, ha0, ha1, h01, hlc, hpc, hmc⟩, htx, hM_0, hM_1, hM_2, hM_3, hM_4, hM_5, hM_6, hM_7, hM_8, hM_9, hM_10, hM_11, hB, hS0, hS1, hMs⟩ := hI
  have hokA := busR.ok hB (by omega)
  by_cases hx : (0 ≤ xs (6 * j + 1) ∧ xs (6 * j + 1) ≤ 3)
  · obtain ⟨k, hk, ek⟩ := nk_of hx
    refine g_aload_n hC dL_law_685 1 rfl gRef_r 686 rfl ?_
    refine g_aload_n hC dL_law_686 0 rfl gRef_r 687 rfl ?_
    refine g_iload_n hC dL_law_687 3 rfl 688 rfl ?_
    refine g_iconst hC dL_law_688 ki_1 689 rfl ?_
    refine g_iadd hC dL_law_689 690 rfl ?_
    refine g_topi (y := nI (6 * j + 1)) (nI_a (a := (6 * j)) (b := 1) (c := (6 * j + 1)) (by omega)) ?_
    refine g_scr hC hX hbz (i := 6 * j + 1) (by omega) hL dL_law_690 691 rfl ?_
    refine g_topi (y := nI k) ek ?_
    refine g_calliP (g_V (As := [.int (nI k)]) (rest := []) hC mvX0_transmitErrors q2334 (gOf.of hC.K cI0 hM_0) (met_X_transmitErrors l G M x sv ms tx (nI lc) ta of f q k ⟨by omega, by omega⟩ hk hM_0 hB) ⟨rfl, rfl⟩ ⟨(Nat.le_of_ble_eq_true rfl), (Nat.le_of_ble_eq_true rfl)⟩ rfl (Nat.le_of_ble_eq_true rfl) dL_law_691 rfl ⟨(by first | omega | exact Nat.le_of_ble_eq_true rfl | (show _ ≤ 601471; omega) | (show _ ≤ 7291690; omega)), (by first | omega | exact Nat.le_of_ble_eq_true rfl | (show _ ≤ 601471; omega) | (show _ ≤ 7291690; omega))⟩) 694 rfl (70000 * j + 20000) (by first | omega | exact Nat.le_of_ble_eq_true rfl | (show _ ≤ 601471; omega) | (show _ ≤ 7291690; omega)) ?_
    refine g_aload_n hC dL_law_694 2 rfl gRef_r 695 rfl ?_
    refine g_aload_n hC dL_law_695 0 rfl gRef_r 696 rfl ?_
    refine g_iload_n hC dL_law_696 3 rfl 697 rfl ?_
    refine g_iconst hC dL_law_697 ki_1 698 rfl ?_
    refine g_iadd hC dL_law_698 699 rfl ?_
    refine g_topi (y := nI (6 * j + 1)) (nI_a (a := (6 * j)) (b := 1) (c := (6 * j + 1)) (by omega)) ?_
    refine g_scr hC hX hbz (i := 6 * j + 1) (by omega) hL dL_law_699 700 rfl ?_
    refine g_topi (y := nI k) ek ?_
    refine g_calliP (g_V (As := [.int (nI k)]) (rest := [.int (f (256 * k + 4))]) hC mvX8_transmitErrors q3215 (gOf.of hC.K cI7 hM_3) (met_T_transmitErrors l G M m0 av asp ak aik atx (nI lc) am (nI mc) aa (nI pc_) ato f k hk hM_3 hM_4) ⟨rfl, rfl⟩ ⟨(Nat.le_of_ble_eq_true rfl), (Nat.le_of_ble_eq_true rfl)⟩ rfl (Nat.le_of_ble_eq_true rfl) dL_law_700 rfl ⟨(by first | omega | exact Nat.le_of_ble_eq_true rfl | (show _ ≤ 601471; omega) | (show _ ≤ 7291690; omega)), (by first | omega | exact Nat.le_of_ble_eq_true rfl | (show _ ≤ 601471; omega) | (show _ ≤ 7291690; omega))⟩) 703 rfl (70000 * j + 20000) (by first | omega | exact Nat.le_of_ble_eq_true rfl | (show _ ≤ 601471; omega) | (show _ ≤ 7291690; omega)) ?_
    refine g_icmp_eq hC dL_law_703 1649 rfl 706 rfl (fun c_1 => ?_) (fun c_1 => ?_)
    · exact ih M ⟨ta, of, sv, ms, tx, lc, av, asp, ak, aik, atx, am, mc, aa, pc_, ato, t0, t1, f, txf, sp, kf, ik, gm, ga, gt, A, ⟨⟨by omega, by omega⟩, ⟨by omega, by omega⟩, ⟨by omega, by omega⟩, by omega, by omega, by omega, by omega, by omega, by omega⟩, htx, hM_0, hM_1, hM_2, hM_3, hM_4, hM_5, hM_6, hM_7, hM_8, hM_9, hM_10, hM_11, busR.mono hB (by omega), (hS0.mono (by omega)), (hS1.mono (by omega)), hMs⟩
    · exact absurd rfl c_1
  · refine g_aload_n hC dL_law_685 1 rfl gRef_r 686 rfl ?_
    refine g_aload_n hC dL_law_686 0 rfl gRef_r 687 rfl ?_
    refine g_iload_n hC dL_law_687 3 rfl 688 rfl ?_
    refine g_iconst hC dL_law_688 ki_1 689 rfl ?_
    refine g_iadd hC dL_law_689 690 rfl ?_
    refine g_topi (y := nI (6 * j + 1)) (nI_a (a := (6 * j)) (b := 1) (c := (6 * j + 1)) (by omega)) ?_
    refine g_scr hC hX hbz (i := 6 * j + 1) (by omega) hL dL_law_690 691 rfl ?_
    refine g_calliP (g_V (As := [.int (xs (6 * j + 1))]) (rest := []) hC mvX0_transmitErrors q2334 (gOf.of hC.K cI0 hM_0) (met_X_transmitErrors_n l G M x sv ms tx (nI lc) ta of f q (xs (6 * j + 1)) hx hM_0) ⟨rfl, rfl⟩ ⟨(Nat.le_of_ble_eq_true rfl), (Nat.le_of_ble_eq_true rfl)⟩ rfl (Nat.le_of_ble_eq_true rfl) dL_law_691 rfl ⟨(by first | omega | exact Nat.le_of_ble_eq_true rfl | (show _ ≤ 601471; omega) | (show _ ≤ 7291690; omega)), (by first | omega | exact Nat.le_of_ble_eq_true rfl | (show _ ≤ 601471; omega) | (show _ ≤ 7291690; omega))⟩) 694 rfl (70000 * j + 20000) (by first | omega | exact Nat.le_of_ble_eq_true rfl | (show _ ≤ 601471; omega) | (show _ ≤ 7291690; omega)) ?_
    refine g_aload_n hC dL_law_694 2 rfl gRef_r 695 rfl ?_
    refine g_aload_n hC dL_law_695 0 rfl gRef_r 696 rfl ?_
    refine g_iload_n hC dL_law_696 3 rfl 697 rfl ?_
    refine g_iconst hC dL_law_697 ki_1 698 rfl ?_
    refine g_iadd hC dL_law_698 699 rfl ?_
    refine g_topi (y := nI (6 * j + 1)) (nI_a (a := (6 * j)) (b := 1) (c := (6 * j + 1)) (by omega)) ?_
    refine g_scr hC hX hbz (i := 6 * j + 1) (by omega) hL dL_law_699 700 rfl ?_
    refine g_calliP (g_V (As := [.int (xs (6 * j + 1))]) (rest := [.int (-1)]) hC mvX8_transmitErrors q3215 (gOf.of hC.K cI7 hM_3) (met_T_transmitErrors_n l G M m0 av asp ak aik atx (nI lc) am (nI mc) aa (nI pc_) ato f (xs (6 * j + 1)) hx hM_3 hM_4) ⟨rfl, rfl⟩ ⟨(Nat.le_of_ble_eq_true rfl), (Nat.le_of_ble_eq_true rfl)⟩ rfl (Nat.le_of_ble_eq_true rfl) dL_law_700 rfl ⟨(by first | omega | exact Nat.le_of_ble_eq_true rfl | (show _ ≤ 601471; omega) | (show _ ≤ 7291690; omega)), (by first | omega | exact Nat.le_of_ble_eq_true rfl | (show _ ≤ 601471; omega) | (show _ ≤ 7291690; omega))⟩) 703 rfl (70000 * j + 20000) (by first | omega | exact Nat.le_of_ble_eq_true rfl | (show _ ≤ 601471; omega) | (show _ ≤ 7291690; omega)) ?_
    refine g_icmp_eq hC dL_law_703 1649 rfl 706 rfl (fun c_2 => ?_) (fun c_2 => ?_)
    · exact ih M ⟨ta, of, sv, ms, tx, lc, av, asp, ak, aik, atx, am, mc, aa, pc_, ato, t0, t1, f, txf, sp, kf, ik, gm, ga, gt, A, ⟨⟨by omega, by omega⟩, ⟨by omega, by omega⟩, ⟨by omega, by omega⟩, by omega, by omega, by omega, by omega, by omega, by omega⟩, htx, hM_0, hM_1, hM_2, hM_3, hM_4, hM_5, hM_6, hM_7, hM_8, hM_9, hM_10, hM_11, busR.mono hB (by omega), (hS0.mono (by omega)), (hS1.mono (by omega)), hMs⟩
    · exact absurd c_2 (by decide)
set_option maxHeartbeats 4000000 in
theorem lwc_14 {nm : String} {p : Program} {l : Launch} {e : Env} {s : State} {m : MethodId} {args : Array Value} {below : List Frame} {meth : Method} {c : Code} {G : gG} {Q : State → Prop} {M : gM} {b L x m0 q j : Nat} {xs : Nat → Int32} (hC : gC p s m args meth c G 4 cL_law "ArbitratedBusLaw" nm (some .boolean)) (hX : va_X b L xs s s.heap) (hbz : b < s.heap.size ∧ b < gz G) (hL : L ≤ 384) (hj : 6 * j + 6 ≤ L) (hqj : q ≤ 1100 * j) (hI : LW M G x m0 q) (ih : ∀ M', LW M' G x m0 (q + 1100) → gJ p l e room_1 s m args below meth c G 4 Q (9200 * (j + 1) + 300) (70000 * (j + 1) + 20000) M' 1649 [(0, .ref b), (1, .ref x), (2, .ref m0), (3, .int (nI (6 * j)))] []) : gJ p l e room_1 s m args below meth c G 4 Q (9200 * j + 300) (70000 * j + 20000) M 708 [(0, .ref b), (1, .ref x), (2, .ref m0), (3, .int (nI (6 * j)))] [] := by
  obtain ⟨ta, of, sv, ms, tx, lc, av, asp, ak, aik, atx, am, mc, aa, pc_, ato, t0, t1, f, txf, sp, kf, ik, gm, ga, gt, A, ⟨⟨hta2, hta6⟩, ⟨ht02, ht06⟩, ⟨ht12, ht16⟩, ha0, ha1, h01, hlc, hpc, hmc⟩, htx, hM_0, hM_1, hM_2, hM_3, hM_4, hM_5, hM_6, hM_7, hM_8, hM_9, hM_10, hM_11, hB, hS0, hS1, hMs⟩ := hI
  have hokA := busR.ok hB (by omega)
  by_cases hx : (0 ≤ xs (6 * j + 1) ∧ xs (6 * j + 1) ≤ 3)
  · obtain ⟨k, hk, ek⟩ := nk_of hx
    refine g_aload_n hC dL_law_708 1 rfl gRef_r 709 rfl ?_
    refine g_aload_n hC dL_law_709 0 rfl gRef_r 710 rfl ?_
    refine g_iload_n hC dL_law_710 3 rfl 711 rfl ?_
    refine g_iconst hC dL_law_711 ki_1 712 rfl ?_
    refine g_iadd hC dL_law_712 713 rfl ?_
    refine g_topi (y := nI (6 * j + 1)) (nI_a (a := (6 * j)) (b := 1) (c := (6 * j + 1)) (by omega)) ?_
    refine g_scr hC hX hbz (i := 6 * j + 1) (by omega) hL dL_law_713 714 rfl ?_
    refine g_topi (y := nI k) ek ?_
    refine g_calliP (g_V (As := [.int (nI k)]) (rest := []) hC mvX0_receiveErrors q2338 (gOf.of hC.K cI0 hM_0) (met_X_receiveErrors l G M x sv ms tx (nI lc) ta of f q k ⟨by omega, by omega⟩ hk hM_0 hB) ⟨rfl, rfl⟩ ⟨(Nat.le_of_ble_eq_true rfl), (Nat.le_of_ble_eq_true rfl)⟩ rfl (Nat.le_of_ble_eq_true rfl) dL_law_714 rfl ⟨(by first | omega | exact Nat.le_of_ble_eq_true rfl | (show _ ≤ 601471; omega) | (show _ ≤ 7291690; omega)), (by first | omega | exact Nat.le_of_ble_eq_true rfl | (show _ ≤ 601471; omega) | (show _ ≤ 7291690; omega))⟩) 717 rfl (70000 * j + 20000) (by first | omega | exact Nat.le_of_ble_eq_true rfl | (show _ ≤ 601471; omega) | (show _ ≤ 7291690; omega)) ?_
    refine g_aload_n hC dL_law_717 2 rfl gRef_r 718 rfl ?_
    refine g_aload_n hC dL_law_718 0 rfl gRef_r 719 rfl ?_
    refine g_iload_n hC dL_law_719 3 rfl 720 rfl ?_
    refine g_iconst hC dL_law_720 ki_1 721 rfl ?_
    refine g_iadd hC dL_law_721 722 rfl ?_
    refine g_topi (y := nI (6 * j + 1)) (nI_a (a := (6 * j)) (b := 1) (c := (6 * j + 1)) (by omega)) ?_
    refine g_scr hC hX hbz (i := 6 * j + 1) (by omega) hL dL_law_722 723 rfl ?_
    refine g_topi (y := nI k) ek ?_
    refine g_calliP (g_V (As := [.int (nI k)]) (rest := [.int (f (256 * k + 5))]) hC mvX8_receiveErrors q3219 (gOf.of hC.K cI7 hM_3) (met_T_receiveErrors l G M m0 av asp ak aik atx (nI lc) am (nI mc) aa (nI pc_) ato f k hk hM_3 hM_4) ⟨rfl, rfl⟩ ⟨(Nat.le_of_ble_eq_true rfl), (Nat.le_of_ble_eq_true rfl)⟩ rfl (Nat.le_of_ble_eq_true rfl) dL_law_723 rfl ⟨(by first | omega | exact Nat.le_of_ble_eq_true rfl | (show _ ≤ 601471; omega) | (show _ ≤ 7291690; omega)), (by first | omega | exact Nat.le_of_ble_eq_true rfl | (show _ ≤ 601471; omega) | (show _ ≤ 7291690; omega))⟩) 726 rfl (70000 * j + 20000) (by first | omega | exact Nat.le_of_ble_eq_true rfl | (show _ ≤ 601471; omega) | (show _ ≤ 7291690; omega)) ?_
    refine g_icmp_eq hC dL_law_726 1649 rfl 729 rfl (fun c_1 => ?_) (fun c_1 => ?_)
    · exact ih M ⟨ta, of, sv, ms, tx, lc, av, asp, ak, aik, atx, am, mc, aa, pc_, ato, t0, t1, f, txf, sp, kf, ik, gm, ga, gt, A, ⟨⟨by omega, by omega⟩, ⟨by omega, by omega⟩, ⟨by omega, by omega⟩, by omega, by omega, by omega, by omega, by omega, by omega⟩, htx, hM_0, hM_1, hM_2, hM_3, hM_4, hM_5, hM_6, hM_7, hM_8, hM_9, hM_10, hM_11, busR.mono hB (by omega), (hS0.mono (by omega)), (hS1.mono (by omega)), hMs⟩
    · exact absurd rfl c_1
  · refine g_aload_n hC dL_law_708 1 rfl gRef_r 709 rfl ?_
    refine g_aload_n hC dL_law_709 0 rfl gRef_r 710 rfl ?_
    refine g_iload_n hC dL_law_710 3 rfl 711 rfl ?_
    refine g_iconst hC dL_law_711 ki_1 712 rfl ?_
    refine g_iadd hC dL_law_712 713 rfl ?_
    refine g_topi (y := nI (6 * j + 1)) (nI_a (a := (6 * j)) (b := 1) (c := (6 * j + 1)) (by omega)) ?_
    refine g_scr hC hX hbz (i := 6 * j + 1) (by omega) hL dL_law_713 714 rfl ?_
    refine g_calliP (g_V (As := [.int (xs (6 * j + 1))]) (rest := []) hC mvX0_receiveErrors q2338 (gOf.of hC.K cI0 hM_0) (met_X_receiveErrors_n l G M x sv ms tx (nI lc) ta of f q (xs (6 * j + 1)) hx hM_0) ⟨rfl, rfl⟩ ⟨(Nat.le_of_ble_eq_true rfl), (Nat.le_of_ble_eq_true rfl)⟩ rfl (Nat.le_of_ble_eq_true rfl) dL_law_714 rfl ⟨(by first | omega | exact Nat.le_of_ble_eq_true rfl | (show _ ≤ 601471; omega) | (show _ ≤ 7291690; omega)), (by first | omega | exact Nat.le_of_ble_eq_true rfl | (show _ ≤ 601471; omega) | (show _ ≤ 7291690; omega))⟩) 717 rfl (70000 * j + 20000) (by first | omega | exact Nat.le_of_ble_eq_true rfl | (show _ ≤ 601471; omega) | (show _ ≤ 7291690; omega)) ?_
    refine g_aload_n hC dL_law_717 2 rfl gRef_r 718 rfl ?_
    refine g_aload_n hC dL_law_718 0 rfl gRef_r 719 rfl ?_
    refine g_iload_n hC dL_law_719 3 rfl 720 rfl ?_
    refine g_iconst hC dL_law_720 ki_1 721 rfl ?_
    refine g_iadd hC dL_law_721 722 rfl ?_
    refine g_topi (y := nI (6 * j + 1)) (nI_a (a := (6 * j)) (b := 1) (c := (6 * j + 1)) (by omega)) ?_
    refine g_scr hC hX hbz (i := 6 * j + 1) (by omega) hL dL_law_722 723 rfl ?_
    refine g_calliP (g_V (As := [.int (xs (6 * j + 1))]) (rest := [.int (-1)]) hC mvX8_receiveErrors q3219 (gOf.of hC.K cI7 hM_3) (met_T_receiveErrors_n l G M m0 av asp ak aik atx (nI lc) am (nI mc) aa (nI pc_) ato f (xs (6 * j + 1)) hx hM_3 hM_4) ⟨rfl, rfl⟩ ⟨(Nat.le_of_ble_eq_true rfl), (Nat.le_of_ble_eq_true rfl)⟩ rfl (Nat.le_of_ble_eq_true rfl) dL_law_723 rfl ⟨(by first | omega | exact Nat.le_of_ble_eq_true rfl | (show _ ≤ 601471; omega) | (show _ ≤ 7291690; omega)), (by first | omega | exact Nat.le_of_ble_eq_true rfl | (show _ ≤ 601471; omega) | (show _ ≤ 7291690; omega))⟩) 726 rfl (70000 * j + 20000) (by first | omega | exact Nat.le_of_ble_eq_true rfl | (show _ ≤ 601471; omega) | (show _ ≤ 7291690; omega)) ?_
    refine g_icmp_eq hC dL_law_726 1649 rfl 729 rfl (fun c_2 => ?_) (fun c_2 => ?_)
    · exact ih M ⟨ta, of, sv, ms, tx, lc, av, asp, ak, aik, atx, am, mc, aa, pc_, ato, t0, t1, f, txf, sp, kf, ik, gm, ga, gt, A, ⟨⟨by omega, by omega⟩, ⟨by omega, by omega⟩, ⟨by omega, by omega⟩, by omega, by omega, by omega, by omega, by omega, by omega⟩, htx, hM_0, hM_1, hM_2, hM_3, hM_4, hM_5, hM_6, hM_7, hM_8, hM_9, hM_10, hM_11, busR.mono hB (by omega), (hS0.mono (by omega)), (hS1.mono (by omega)), hMs⟩
    · exact absurd c_2 (by decide)
set_option maxHeartbeats 4000000 in
theorem lwc_15 {nm : String} {p : Program} {l : Launch} {e : Env} {s : State} {m : MethodId} {args : Array Value} {below : List Frame} {meth : Method} {c : Code} {G : gG} {Q : State → Prop} {M : gM} {b L x m0 q j : Nat} {xs : Nat → Int32} (hC : gC p s m args meth c G 4 cL_law "ArbitratedBusLaw" nm (some .boolean)) (hX : va_X b L xs s s.heap) (hbz : b < s.heap.size ∧ b < gz G) (hL : L ≤ 384) (hj : 6 * j + 6 ≤ L) (hqj : q ≤ 1100 * j) (hI : LW M G x m0 q) (ih : ∀ M', LW M' G x m0 (q + 1100) → gJ p l e room_1 s m args below meth c G 4 Q (9200 * (j + 1) + 300) (70000 * (j + 1) + 20000) M' 1649 [(0, .ref b), (1, .ref x), (2, .ref m0), (3, .int (nI (6 * j)))] []) : gJ p l e room_1 s m args below meth c G 4 Q (9200 * j + 300) (70000 * j + 20000) M 731 [(0, .ref b), (1, .ref x), (2, .ref m0), (3, .int (nI (6 * j)))] [] := by
  obtain ⟨ta, of, sv, ms, tx, lc, av, asp, ak, aik, atx, am, mc, aa, pc_, ato, t0, t1, f, txf, sp, kf, ik, gm, ga, gt, A, ⟨⟨hta2, hta6⟩, ⟨ht02, ht06⟩, ⟨ht12, ht16⟩, ha0, ha1, h01, hlc, hpc, hmc⟩, htx, hM_0, hM_1, hM_2, hM_3, hM_4, hM_5, hM_6, hM_7, hM_8, hM_9, hM_10, hM_11, hB, hS0, hS1, hMs⟩ := hI
  have hokA := busR.ok hB (by omega)
  by_cases hx : (0 ≤ xs (6 * j + 1) ∧ xs (6 * j + 1) ≤ 3)
  · obtain ⟨k, hk, ek⟩ := nk_of hx
    refine g_aload_n hC dL_law_731 1 rfl gRef_r 732 rfl ?_
    refine g_aload_n hC dL_law_732 0 rfl gRef_r 733 rfl ?_
    refine g_iload_n hC dL_law_733 3 rfl 734 rfl ?_
    refine g_iconst hC dL_law_734 ki_1 735 rfl ?_
    refine g_iadd hC dL_law_735 736 rfl ?_
    refine g_topi (y := nI (6 * j + 1)) (nI_a (a := (6 * j)) (b := 1) (c := (6 * j + 1)) (by omega)) ?_
    refine g_scr hC hX hbz (i := 6 * j + 1) (by omega) hL dL_law_736 737 rfl ?_
    refine g_topi (y := nI k) ek ?_
    refine g_calliP (g_V (As := [.int (nI k)]) (rest := []) hC mvX0_isPassive q2342 (gOf.of hC.K cI0 hM_0) (met_X_isPassive l G M x sv ms tx (nI lc) ta of f q k ⟨by omega, by omega⟩ hk hM_0 hB) ⟨rfl, rfl⟩ ⟨(Nat.le_of_ble_eq_true rfl), (Nat.le_of_ble_eq_true rfl)⟩ rfl (Nat.le_of_ble_eq_true rfl) dL_law_737 rfl ⟨(by first | omega | exact Nat.le_of_ble_eq_true rfl | (show _ ≤ 601471; omega) | (show _ ≤ 7291690; omega)), (by first | omega | exact Nat.le_of_ble_eq_true rfl | (show _ ≤ 601471; omega) | (show _ ≤ 7291690; omega))⟩) 740 rfl (70000 * j + 20000) (by first | omega | exact Nat.le_of_ble_eq_true rfl | (show _ ≤ 601471; omega) | (show _ ≤ 7291690; omega)) ?_
    refine g_aload_n hC dL_law_740 2 rfl gRef_r 741 rfl ?_
    refine g_aload_n hC dL_law_741 0 rfl gRef_r 742 rfl ?_
    refine g_iload_n hC dL_law_742 3 rfl 743 rfl ?_
    refine g_iconst hC dL_law_743 ki_1 744 rfl ?_
    refine g_iadd hC dL_law_744 745 rfl ?_
    refine g_topi (y := nI (6 * j + 1)) (nI_a (a := (6 * j)) (b := 1) (c := (6 * j + 1)) (by omega)) ?_
    refine g_scr hC hX hbz (i := 6 * j + 1) (by omega) hL dL_law_745 746 rfl ?_
    refine g_topi (y := nI k) ek ?_
    refine g_calliP (g_V (As := [.int (nI k)]) (rest := [.int (bI (decide (f 1025 ≤ f (256 * k + 4) ∨ f 1025 ≤ f (256 * k + 5))))]) hC mvX8_isPassive q3223 (gOf.of hC.K cI7 hM_3) (met_T_isPassive l G M m0 av asp ak aik atx (nI lc) am (nI mc) aa (nI pc_) ato f k hk hM_3 hM_4) ⟨rfl, rfl⟩ ⟨(Nat.le_of_ble_eq_true rfl), (Nat.le_of_ble_eq_true rfl)⟩ rfl (Nat.le_of_ble_eq_true rfl) dL_law_746 rfl ⟨(by first | omega | exact Nat.le_of_ble_eq_true rfl | (show _ ≤ 601471; omega) | (show _ ≤ 7291690; omega)), (by first | omega | exact Nat.le_of_ble_eq_true rfl | (show _ ≤ 601471; omega) | (show _ ≤ 7291690; omega))⟩) 749 rfl (70000 * j + 20000) (by first | omega | exact Nat.le_of_ble_eq_true rfl | (show _ ≤ 601471; omega) | (show _ ≤ 7291690; omega)) ?_
    refine g_icmp_eq hC dL_law_749 1649 rfl 752 rfl (fun c_1 => ?_) (fun c_1 => ?_)
    · exact ih M ⟨ta, of, sv, ms, tx, lc, av, asp, ak, aik, atx, am, mc, aa, pc_, ato, t0, t1, f, txf, sp, kf, ik, gm, ga, gt, A, ⟨⟨by omega, by omega⟩, ⟨by omega, by omega⟩, ⟨by omega, by omega⟩, by omega, by omega, by omega, by omega, by omega, by omega⟩, htx, hM_0, hM_1, hM_2, hM_3, hM_4, hM_5, hM_6, hM_7, hM_8, hM_9, hM_10, hM_11, busR.mono hB (by omega), (hS0.mono (by omega)), (hS1.mono (by omega)), hMs⟩
    · exact absurd rfl c_1
  · refine g_aload_n hC dL_law_731 1 rfl gRef_r 732 rfl ?_
    refine g_aload_n hC dL_law_732 0 rfl gRef_r 733 rfl ?_
    refine g_iload_n hC dL_law_733 3 rfl 734 rfl ?_
    refine g_iconst hC dL_law_734 ki_1 735 rfl ?_
    refine g_iadd hC dL_law_735 736 rfl ?_
    refine g_topi (y := nI (6 * j + 1)) (nI_a (a := (6 * j)) (b := 1) (c := (6 * j + 1)) (by omega)) ?_
    refine g_scr hC hX hbz (i := 6 * j + 1) (by omega) hL dL_law_736 737 rfl ?_
    refine g_calliP (g_V (As := [.int (xs (6 * j + 1))]) (rest := []) hC mvX0_isPassive q2342 (gOf.of hC.K cI0 hM_0) (met_X_isPassive_n l G M x sv ms tx (nI lc) ta of f q (xs (6 * j + 1)) hx hM_0) ⟨rfl, rfl⟩ ⟨(Nat.le_of_ble_eq_true rfl), (Nat.le_of_ble_eq_true rfl)⟩ rfl (Nat.le_of_ble_eq_true rfl) dL_law_737 rfl ⟨(by first | omega | exact Nat.le_of_ble_eq_true rfl | (show _ ≤ 601471; omega) | (show _ ≤ 7291690; omega)), (by first | omega | exact Nat.le_of_ble_eq_true rfl | (show _ ≤ 601471; omega) | (show _ ≤ 7291690; omega))⟩) 740 rfl (70000 * j + 20000) (by first | omega | exact Nat.le_of_ble_eq_true rfl | (show _ ≤ 601471; omega) | (show _ ≤ 7291690; omega)) ?_
    refine g_aload_n hC dL_law_740 2 rfl gRef_r 741 rfl ?_
    refine g_aload_n hC dL_law_741 0 rfl gRef_r 742 rfl ?_
    refine g_iload_n hC dL_law_742 3 rfl 743 rfl ?_
    refine g_iconst hC dL_law_743 ki_1 744 rfl ?_
    refine g_iadd hC dL_law_744 745 rfl ?_
    refine g_topi (y := nI (6 * j + 1)) (nI_a (a := (6 * j)) (b := 1) (c := (6 * j + 1)) (by omega)) ?_
    refine g_scr hC hX hbz (i := 6 * j + 1) (by omega) hL dL_law_745 746 rfl ?_
    refine g_calliP (g_V (As := [.int (xs (6 * j + 1))]) (rest := [.int (-1)]) hC mvX8_isPassive q3223 (gOf.of hC.K cI7 hM_3) (met_T_isPassive_n l G M m0 av asp ak aik atx (nI lc) am (nI mc) aa (nI pc_) ato f (xs (6 * j + 1)) hx hM_3 hM_4) ⟨rfl, rfl⟩ ⟨(Nat.le_of_ble_eq_true rfl), (Nat.le_of_ble_eq_true rfl)⟩ rfl (Nat.le_of_ble_eq_true rfl) dL_law_746 rfl ⟨(by first | omega | exact Nat.le_of_ble_eq_true rfl | (show _ ≤ 601471; omega) | (show _ ≤ 7291690; omega)), (by first | omega | exact Nat.le_of_ble_eq_true rfl | (show _ ≤ 601471; omega) | (show _ ≤ 7291690; omega))⟩) 749 rfl (70000 * j + 20000) (by first | omega | exact Nat.le_of_ble_eq_true rfl | (show _ ≤ 601471; omega) | (show _ ≤ 7291690; omega)) ?_
    refine g_icmp_eq hC dL_law_749 1649 rfl 752 rfl (fun c_2 => ?_) (fun c_2 => ?_)
    · exact ih M ⟨ta, of, sv, ms, tx, lc, av, asp, ak, aik, atx, am, mc, aa, pc_, ato, t0, t1, f, txf, sp, kf, ik, gm, ga, gt, A, ⟨⟨by omega, by omega⟩, ⟨by omega, by omega⟩, ⟨by omega, by omega⟩, by omega, by omega, by omega, by omega, by omega, by omega⟩, htx, hM_0, hM_1, hM_2, hM_3, hM_4, hM_5, hM_6, hM_7, hM_8, hM_9, hM_10, hM_11, busR.mono hB (by omega), (hS0.mono (by omega)), (hS1.mono (by omega)), hMs⟩
    · exact absurd c_2 (by decide)
set_option maxHeartbeats 4000000 in
theorem lwc_16 {nm : String} {p : Program} {l : Launch} {e : Env} {s : State} {m : MethodId} {args : Array Value} {below : List Frame} {meth : Method} {c : Code} {G : gG} {Q : State → Prop} {M : gM} {b L x m0 q j : Nat} {xs : Nat → Int32} (hC : gC p s m args meth c G 4 cL_law "ArbitratedBusLaw" nm (some .boolean)) (hX : va_X b L xs s s.heap) (hbz : b < s.heap.size ∧ b < gz G) (hL : L ≤ 384) (hj : 6 * j + 6 ≤ L) (hqj : q ≤ 1100 * j) (hI : LW M G x m0 q) (ih : ∀ M', LW M' G x m0 (q + 1100) → gJ p l e room_1 s m args below meth c G 4 Q (9200 * (j + 1) + 300) (70000 * (j + 1) + 20000) M' 1649 [(0, .ref b), (1, .ref x), (2, .ref m0), (3, .int (nI (6 * j)))] []) : gJ p l e room_1 s m args below meth c G 4 Q (9200 * j + 300) (70000 * j + 20000) M 754 [(0, .ref b), (1, .ref x), (2, .ref m0), (3, .int (nI (6 * j)))] [] := by
  obtain ⟨ta, of, sv, ms, tx, lc, av, asp, ak, aik, atx, am, mc, aa, pc_, ato, t0, t1, f, txf, sp, kf, ik, gm, ga, gt, A, ⟨⟨hta2, hta6⟩, ⟨ht02, ht06⟩, ⟨ht12, ht16⟩, ha0, ha1, h01, hlc, hpc, hmc⟩, htx, hM_0, hM_1, hM_2, hM_3, hM_4, hM_5, hM_6, hM_7, hM_8, hM_9, hM_10, hM_11, hB, hS0, hS1, hMs⟩ := hI
  have hokA := busR.ok hB (by omega)
  by_cases hx : (0 ≤ xs (6 * j + 1) ∧ xs (6 * j + 1) ≤ 3)
  · obtain ⟨k, hk, ek⟩ := nk_of hx
    by_cases hy : (1 ≤ xs (6 * j + 2) ∧ xs (6 * j + 2) ≤ 5)
    · obtain ⟨kd, hd1, hd2, ey⟩ := rng_n (a := 1) (b := 5) (by decide) (by decide) hy
      refine g_aload_n hC dL_law_754 1 rfl gRef_r 755 rfl ?_
      refine g_aload_n hC dL_law_755 0 rfl gRef_r 756 rfl ?_
      refine g_iload_n hC dL_law_756 3 rfl 757 rfl ?_
      refine g_iconst hC dL_law_757 ki_1 758 rfl ?_
      refine g_iadd hC dL_law_758 759 rfl ?_
      refine g_topi (y := nI (6 * j + 1)) (nI_a (a := (6 * j)) (b := 1) (c := (6 * j + 1)) (by omega)) ?_
      refine g_scr hC hX hbz (i := 6 * j + 1) (by omega) hL dL_law_759 760 rfl ?_
      refine g_topi (y := nI k) ek ?_
      refine g_aload_n hC dL_law_760 0 rfl gRef_r 761 rfl ?_
      refine g_iload_n hC dL_law_761 3 rfl 762 rfl ?_
      refine g_iconst hC dL_law_762 ki_2 763 rfl ?_
      refine g_iadd hC dL_law_763 764 rfl ?_
      refine g_topi (y := nI (6 * j + 2)) (nI_a (a := (6 * j)) (b := 2) (c := (6 * j + 2)) (by omega)) ?_
      refine g_scr hC hX hbz (i := 6 * j + 2) (by omega) hL dL_law_764 765 rfl ?_
      refine g_topi (y := nI kd) ey ?_
      refine g_calliP (g_V (As := [.int (nI k), .int (nI kd)]) (rest := []) hC mvX0_errors q2347 (gOf.of hC.K cI0 hM_0) (met_X_errors l G M x sv ms tx (nI lc) ta of f q k kd ⟨by omega, by omega⟩ hk ⟨hd1, hd2⟩ hM_0 hB) ⟨rfl, rfl⟩ ⟨(Nat.le_of_ble_eq_true rfl), (Nat.le_of_ble_eq_true rfl)⟩ rfl (Nat.le_of_ble_eq_true rfl) dL_law_765 rfl ⟨(by first | omega | exact Nat.le_of_ble_eq_true rfl | (show _ ≤ 601471; omega) | (show _ ≤ 7291690; omega)), (by first | omega | exact Nat.le_of_ble_eq_true rfl | (show _ ≤ 601471; omega) | (show _ ≤ 7291690; omega))⟩) 768 rfl (70000 * j + 20000) (by first | omega | exact Nat.le_of_ble_eq_true rfl | (show _ ≤ 601471; omega) | (show _ ≤ 7291690; omega)) ?_
      refine g_aload_n hC dL_law_768 2 rfl gRef_r 769 rfl ?_
      refine g_aload_n hC dL_law_769 0 rfl gRef_r 770 rfl ?_
      refine g_iload_n hC dL_law_770 3 rfl 771 rfl ?_
      refine g_iconst hC dL_law_771 ki_1 772 rfl ?_
      refine g_iadd hC dL_law_772 773 rfl ?_
      refine g_topi (y := nI (6 * j + 1)) (nI_a (a := (6 * j)) (b := 1) (c := (6 * j + 1)) (by omega)) ?_
      refine g_scr hC hX hbz (i := 6 * j + 1) (by omega) hL dL_law_773 774 rfl ?_
      refine g_topi (y := nI k) ek ?_
      refine g_aload_n hC dL_law_774 0 rfl gRef_r 775 rfl ?_
      refine g_iload_n hC dL_law_775 3 rfl 776 rfl ?_
      refine g_iconst hC dL_law_776 ki_2 777 rfl ?_
      refine g_iadd hC dL_law_777 778 rfl ?_
      refine g_topi (y := nI (6 * j + 2)) (nI_a (a := (6 * j)) (b := 2) (c := (6 * j + 2)) (by omega)) ?_
      refine g_scr hC hX hbz (i := 6 * j + 2) (by omega) hL dL_law_778 779 rfl ?_
      refine g_topi (y := nI kd) ey ?_
      refine g_calliP (g_V (As := [.int (nI k), .int (nI kd)]) (rest := [.int (f (256 * k + kd + 5))]) hC mvX8_errors q3227 (gOf.of hC.K cI7 hM_3) (met_T_errors l G M m0 av asp ak aik atx (nI lc) am (nI mc) aa (nI pc_) ato f k kd hk hd1 hd2 hM_3 hM_4) ⟨rfl, rfl⟩ ⟨(Nat.le_of_ble_eq_true rfl), (Nat.le_of_ble_eq_true rfl)⟩ rfl (Nat.le_of_ble_eq_true rfl) dL_law_779 rfl ⟨(by first | omega | exact Nat.le_of_ble_eq_true rfl | (show _ ≤ 601471; omega) | (show _ ≤ 7291690; omega)), (by first | omega | exact Nat.le_of_ble_eq_true rfl | (show _ ≤ 601471; omega) | (show _ ≤ 7291690; omega))⟩) 782 rfl (70000 * j + 20000) (by first | omega | exact Nat.le_of_ble_eq_true rfl | (show _ ≤ 601471; omega) | (show _ ≤ 7291690; omega)) ?_
      refine g_icmp_eq hC dL_law_782 1649 rfl 785 rfl (fun c_1 => ?_) (fun c_1 => ?_)
      · exact ih M ⟨ta, of, sv, ms, tx, lc, av, asp, ak, aik, atx, am, mc, aa, pc_, ato, t0, t1, f, txf, sp, kf, ik, gm, ga, gt, A, ⟨⟨by omega, by omega⟩, ⟨by omega, by omega⟩, ⟨by omega, by omega⟩, by omega, by omega, by omega, by omega, by omega, by omega⟩, htx, hM_0, hM_1, hM_2, hM_3, hM_4, hM_5, hM_6, hM_7, hM_8, hM_9, hM_10, hM_11, busR.mono hB (by omega), (hS0.mono (by omega)), (hS1.mono (by omega)), hMs⟩
      · exact absurd rfl c_1
    · refine g_aload_n hC dL_law_754 1 rfl gRef_r 755 rfl ?_
      refine g_aload_n hC dL_law_755 0 rfl gRef_r 756 rfl ?_
      refine g_iload_n hC dL_law_756 3 rfl 757 rfl ?_
      refine g_iconst hC dL_law_757 ki_1 758 rfl ?_
      refine g_iadd hC dL_law_758 759 rfl ?_
      refine g_topi (y := nI (6 * j + 1)) (nI_a (a := (6 * j)) (b := 1) (c := (6 * j + 1)) (by omega)) ?_
      refine g_scr hC hX hbz (i := 6 * j + 1) (by omega) hL dL_law_759 760 rfl ?_
      refine g_topi (y := nI k) ek ?_
      refine g_aload_n hC dL_law_760 0 rfl gRef_r 761 rfl ?_
      refine g_iload_n hC dL_law_761 3 rfl 762 rfl ?_
      refine g_iconst hC dL_law_762 ki_2 763 rfl ?_
      refine g_iadd hC dL_law_763 764 rfl ?_
      refine g_topi (y := nI (6 * j + 2)) (nI_a (a := (6 * j)) (b := 2) (c := (6 * j + 2)) (by omega)) ?_
      refine g_scr hC hX hbz (i := 6 * j + 2) (by omega) hL dL_law_764 765 rfl ?_
      refine g_calliP (g_V (As := [.int (nI k), .int (xs (6 * j + 2))]) (rest := []) hC mvX0_errors q2347 (gOf.of hC.K cI0 hM_0) (met_X_errors_y l G M x sv ms tx (nI lc) ta of f q k (xs (6 * j + 2)) hk hy hM_0) ⟨rfl, rfl⟩ ⟨(Nat.le_of_ble_eq_true rfl), (Nat.le_of_ble_eq_true rfl)⟩ rfl (Nat.le_of_ble_eq_true rfl) dL_law_765 rfl ⟨(by first | omega | exact Nat.le_of_ble_eq_true rfl | (show _ ≤ 601471; omega) | (show _ ≤ 7291690; omega)), (by first | omega | exact Nat.le_of_ble_eq_true rfl | (show _ ≤ 601471; omega) | (show _ ≤ 7291690; omega))⟩) 768 rfl (70000 * j + 20000) (by first | omega | exact Nat.le_of_ble_eq_true rfl | (show _ ≤ 601471; omega) | (show _ ≤ 7291690; omega)) ?_
      refine g_aload_n hC dL_law_768 2 rfl gRef_r 769 rfl ?_
      refine g_aload_n hC dL_law_769 0 rfl gRef_r 770 rfl ?_
      refine g_iload_n hC dL_law_770 3 rfl 771 rfl ?_
      refine g_iconst hC dL_law_771 ki_1 772 rfl ?_
      refine g_iadd hC dL_law_772 773 rfl ?_
      refine g_topi (y := nI (6 * j + 1)) (nI_a (a := (6 * j)) (b := 1) (c := (6 * j + 1)) (by omega)) ?_
      refine g_scr hC hX hbz (i := 6 * j + 1) (by omega) hL dL_law_773 774 rfl ?_
      refine g_topi (y := nI k) ek ?_
      refine g_aload_n hC dL_law_774 0 rfl gRef_r 775 rfl ?_
      refine g_iload_n hC dL_law_775 3 rfl 776 rfl ?_
      refine g_iconst hC dL_law_776 ki_2 777 rfl ?_
      refine g_iadd hC dL_law_777 778 rfl ?_
      refine g_topi (y := nI (6 * j + 2)) (nI_a (a := (6 * j)) (b := 2) (c := (6 * j + 2)) (by omega)) ?_
      refine g_scr hC hX hbz (i := 6 * j + 2) (by omega) hL dL_law_778 779 rfl ?_
      refine g_calliP (g_V (As := [.int (nI k), .int (xs (6 * j + 2))]) (rest := [.int (-2)]) hC mvX8_errors q3227 (gOf.of hC.K cI7 hM_3) (met_T_errors_y l G M m0 av asp ak aik atx (nI lc) am (nI mc) aa (nI pc_) ato f k (xs (6 * j + 2)) hk hy hM_3 hM_4) ⟨rfl, rfl⟩ ⟨(Nat.le_of_ble_eq_true rfl), (Nat.le_of_ble_eq_true rfl)⟩ rfl (Nat.le_of_ble_eq_true rfl) dL_law_779 rfl ⟨(by first | omega | exact Nat.le_of_ble_eq_true rfl | (show _ ≤ 601471; omega) | (show _ ≤ 7291690; omega)), (by first | omega | exact Nat.le_of_ble_eq_true rfl | (show _ ≤ 601471; omega) | (show _ ≤ 7291690; omega))⟩) 782 rfl (70000 * j + 20000) (by first | omega | exact Nat.le_of_ble_eq_true rfl | (show _ ≤ 601471; omega) | (show _ ≤ 7291690; omega)) ?_
      refine g_icmp_eq hC dL_law_782 1649 rfl 785 rfl (fun c_2 => ?_) (fun c_2 => ?_)
      · exact ih M ⟨ta, of, sv, ms, tx, lc, av, asp, ak, aik, atx, am, mc, aa, pc_, ato, t0, t1, f, txf, sp, kf, ik, gm, ga, gt, A, ⟨⟨by omega, by omega⟩, ⟨by omega, by omega⟩, ⟨by omega, by omega⟩, by omega, by omega, by omega, by omega, by omega, by omega⟩, htx, hM_0, hM_1, hM_2, hM_3, hM_4, hM_5, hM_6, hM_7, hM_8, hM_9, hM_10, hM_11, busR.mono hB (by omega), (hS0.mono (by omega)), (hS1.mono (by omega)), hMs⟩
      · exact absurd c_2 (by decide)
  · refine g_aload_n hC dL_law_754 1 rfl gRef_r 755 rfl ?_
    refine g_aload_n hC dL_law_755 0 rfl gRef_r 756 rfl ?_
    refine g_iload_n hC dL_law_756 3 rfl 757 rfl ?_
    refine g_iconst hC dL_law_757 ki_1 758 rfl ?_
    refine g_iadd hC dL_law_758 759 rfl ?_
    refine g_topi (y := nI (6 * j + 1)) (nI_a (a := (6 * j)) (b := 1) (c := (6 * j + 1)) (by omega)) ?_
    refine g_scr hC hX hbz (i := 6 * j + 1) (by omega) hL dL_law_759 760 rfl ?_
    refine g_aload_n hC dL_law_760 0 rfl gRef_r 761 rfl ?_
    refine g_iload_n hC dL_law_761 3 rfl 762 rfl ?_
    refine g_iconst hC dL_law_762 ki_2 763 rfl ?_
    refine g_iadd hC dL_law_763 764 rfl ?_
    refine g_topi (y := nI (6 * j + 2)) (nI_a (a := (6 * j)) (b := 2) (c := (6 * j + 2)) (by omega)) ?_
    refine g_scr hC hX hbz (i := 6 * j + 2) (by omega) hL dL_law_764 765 rfl ?_
    refine g_calliP (g_V (As := [.int (xs (6 * j + 1)), .int (xs (6 * j + 2))]) (rest := []) hC mvX0_errors q2347 (gOf.of hC.K cI0 hM_0) (met_X_errors_x l G M x sv ms tx (nI lc) ta of f q (xs (6 * j + 1)) (xs (6 * j + 2)) hx hM_0) ⟨rfl, rfl⟩ ⟨(Nat.le_of_ble_eq_true rfl), (Nat.le_of_ble_eq_true rfl)⟩ rfl (Nat.le_of_ble_eq_true rfl) dL_law_765 rfl ⟨(by first | omega | exact Nat.le_of_ble_eq_true rfl | (show _ ≤ 601471; omega) | (show _ ≤ 7291690; omega)), (by first | omega | exact Nat.le_of_ble_eq_true rfl | (show _ ≤ 601471; omega) | (show _ ≤ 7291690; omega))⟩) 768 rfl (70000 * j + 20000) (by first | omega | exact Nat.le_of_ble_eq_true rfl | (show _ ≤ 601471; omega) | (show _ ≤ 7291690; omega)) ?_
    refine g_aload_n hC dL_law_768 2 rfl gRef_r 769 rfl ?_
    refine g_aload_n hC dL_law_769 0 rfl gRef_r 770 rfl ?_
    refine g_iload_n hC dL_law_770 3 rfl 771 rfl ?_
    refine g_iconst hC dL_law_771 ki_1 772 rfl ?_
    refine g_iadd hC dL_law_772 773 rfl ?_
    refine g_topi (y := nI (6 * j + 1)) (nI_a (a := (6 * j)) (b := 1) (c := (6 * j + 1)) (by omega)) ?_
    refine g_scr hC hX hbz (i := 6 * j + 1) (by omega) hL dL_law_773 774 rfl ?_
    refine g_aload_n hC dL_law_774 0 rfl gRef_r 775 rfl ?_
    refine g_iload_n hC dL_law_775 3 rfl 776 rfl ?_
    refine g_iconst hC dL_law_776 ki_2 777 rfl ?_
    refine g_iadd hC dL_law_777 778 rfl ?_
    refine g_topi (y := nI (6 * j + 2)) (nI_a (a := (6 * j)) (b := 2) (c := (6 * j + 2)) (by omega)) ?_
    refine g_scr hC hX hbz (i := 6 * j + 2) (by omega) hL dL_law_778 779 rfl ?_
    refine g_calliP (g_V (As := [.int (xs (6 * j + 1)), .int (xs (6 * j + 2))]) (rest := [.int (-1)]) hC mvX8_errors q3227 (gOf.of hC.K cI7 hM_3) (met_T_errors_x l G M m0 av asp ak aik atx (nI lc) am (nI mc) aa (nI pc_) ato f (xs (6 * j + 1)) (xs (6 * j + 2)) hx hM_3 hM_4) ⟨rfl, rfl⟩ ⟨(Nat.le_of_ble_eq_true rfl), (Nat.le_of_ble_eq_true rfl)⟩ rfl (Nat.le_of_ble_eq_true rfl) dL_law_779 rfl ⟨(by first | omega | exact Nat.le_of_ble_eq_true rfl | (show _ ≤ 601471; omega) | (show _ ≤ 7291690; omega)), (by first | omega | exact Nat.le_of_ble_eq_true rfl | (show _ ≤ 601471; omega) | (show _ ≤ 7291690; omega))⟩) 782 rfl (70000 * j + 20000) (by first | omega | exact Nat.le_of_ble_eq_true rfl | (show _ ≤ 601471; omega) | (show _ ≤ 7291690; omega)) ?_
    refine g_icmp_eq hC dL_law_782 1649 rfl 785 rfl (fun c_3 => ?_) (fun c_3 => ?_)
    · exact ih M ⟨ta, of, sv, ms, tx, lc, av, asp, ak, aik, atx, am, mc, aa, pc_, ato, t0, t1, f, txf, sp, kf, ik, gm, ga, gt, A, ⟨⟨by omega, by omega⟩, ⟨by omega, by omega⟩, ⟨by omega, by omega⟩, by omega, by omega, by omega, by omega, by omega, by omega⟩, htx, hM_0, hM_1, hM_2, hM_3, hM_4, hM_5, hM_6, hM_7, hM_8, hM_9, hM_10, hM_11, busR.mono hB (by omega), (hS0.mono (by omega)), (hS1.mono (by omega)), hMs⟩
    · exact absurd c_3 (by decide)
set_option maxHeartbeats 4000000 in
theorem lwc_17 {nm : String} {p : Program} {l : Launch} {e : Env} {s : State} {m : MethodId} {args : Array Value} {below : List Frame} {meth : Method} {c : Code} {G : gG} {Q : State → Prop} {M : gM} {b L x m0 q j : Nat} {xs : Nat → Int32} (hC : gC p s m args meth c G 4 cL_law "ArbitratedBusLaw" nm (some .boolean)) (hX : va_X b L xs s s.heap) (hbz : b < s.heap.size ∧ b < gz G) (hL : L ≤ 384) (hj : 6 * j + 6 ≤ L) (hqj : q ≤ 1100 * j) (hI : LW M G x m0 q) (ih : ∀ M', LW M' G x m0 (q + 1100) → gJ p l e room_1 s m args below meth c G 4 Q (9200 * (j + 1) + 300) (70000 * (j + 1) + 20000) M' 1649 [(0, .ref b), (1, .ref x), (2, .ref m0), (3, .int (nI (6 * j)))] []) : gJ p l e room_1 s m args below meth c G 4 Q (9200 * j + 300) (70000 * j + 20000) M 787 [(0, .ref b), (1, .ref x), (2, .ref m0), (3, .int (nI (6 * j)))] [] := by
  obtain ⟨ta, of, sv, ms, tx, lc, av, asp, ak, aik, atx, am, mc, aa, pc_, ato, t0, t1, f, txf, sp, kf, ik, gm, ga, gt, A, ⟨⟨hta2, hta6⟩, ⟨ht02, ht06⟩, ⟨ht12, ht16⟩, ha0, ha1, h01, hlc, hpc, hmc⟩, htx, hM_0, hM_1, hM_2, hM_3, hM_4, hM_5, hM_6, hM_7, hM_8, hM_9, hM_10, hM_11, hB, hS0, hS1, hMs⟩ := hI
  have hokA := busR.ok hB (by omega)
  by_cases hx : (0 ≤ xs (6 * j + 1) ∧ xs (6 * j + 1) ≤ 3)
  · obtain ⟨k, hk, ek⟩ := nk_of hx
    refine g_aload_n hC dL_law_787 1 rfl gRef_r 788 rfl ?_
    refine g_aload_n hC dL_law_788 0 rfl gRef_r 789 rfl ?_
    refine g_iload_n hC dL_law_789 3 rfl 790 rfl ?_
    refine g_iconst hC dL_law_790 ki_1 791 rfl ?_
    refine g_iadd hC dL_law_791 792 rfl ?_
    refine g_topi (y := nI (6 * j + 1)) (nI_a (a := (6 * j)) (b := 1) (c := (6 * j + 1)) (by omega)) ?_
    refine g_scr hC hX hbz (i := 6 * j + 1) (by omega) hL dL_law_792 793 rfl ?_
    refine g_topi (y := nI k) ek ?_
    refine g_calliP (g_V (As := [.int (nI k)]) (rest := []) hC mvX0_lastError q2352 (gOf.of hC.K cI0 hM_0) (met_X_lastError l G M x sv ms tx (nI lc) ta of f q k ⟨by omega, by omega⟩ hk hM_0 hB) ⟨rfl, rfl⟩ ⟨(Nat.le_of_ble_eq_true rfl), (Nat.le_of_ble_eq_true rfl)⟩ rfl (Nat.le_of_ble_eq_true rfl) dL_law_793 rfl ⟨(by first | omega | exact Nat.le_of_ble_eq_true rfl | (show _ ≤ 601471; omega) | (show _ ≤ 7291690; omega)), (by first | omega | exact Nat.le_of_ble_eq_true rfl | (show _ ≤ 601471; omega) | (show _ ≤ 7291690; omega))⟩) 796 rfl (70000 * j + 20000) (by first | omega | exact Nat.le_of_ble_eq_true rfl | (show _ ≤ 601471; omega) | (show _ ≤ 7291690; omega)) ?_
    refine g_aload_n hC dL_law_796 2 rfl gRef_r 797 rfl ?_
    refine g_aload_n hC dL_law_797 0 rfl gRef_r 798 rfl ?_
    refine g_iload_n hC dL_law_798 3 rfl 799 rfl ?_
    refine g_iconst hC dL_law_799 ki_1 800 rfl ?_
    refine g_iadd hC dL_law_800 801 rfl ?_
    refine g_topi (y := nI (6 * j + 1)) (nI_a (a := (6 * j)) (b := 1) (c := (6 * j + 1)) (by omega)) ?_
    refine g_scr hC hX hbz (i := 6 * j + 1) (by omega) hL dL_law_801 802 rfl ?_
    refine g_topi (y := nI k) ek ?_
    refine g_calliP (g_V (As := [.int (nI k)]) (rest := [.int (T_last f k)]) hC mvX8_lastError q3231 (gOf.of hC.K cI7 hM_3) (met_T_lastError l G M m0 av asp ak aik atx (nI lc) am (nI mc) aa (nI pc_) ato f k hk hM_3 hM_4) ⟨rfl, rfl⟩ ⟨(Nat.le_of_ble_eq_true rfl), (Nat.le_of_ble_eq_true rfl)⟩ rfl (Nat.le_of_ble_eq_true rfl) dL_law_802 rfl ⟨(by first | omega | exact Nat.le_of_ble_eq_true rfl | (show _ ≤ 601471; omega) | (show _ ≤ 7291690; omega)), (by first | omega | exact Nat.le_of_ble_eq_true rfl | (show _ ≤ 601471; omega) | (show _ ≤ 7291690; omega))⟩) 805 rfl (70000 * j + 20000) (by first | omega | exact Nat.le_of_ble_eq_true rfl | (show _ ≤ 601471; omega) | (show _ ≤ 7291690; omega)) ?_
    refine g_icmp_eq hC dL_law_805 1649 rfl 808 rfl (fun c_1 => ?_) (fun c_1 => ?_)
    · exact ih M ⟨ta, of, sv, ms, tx, lc, av, asp, ak, aik, atx, am, mc, aa, pc_, ato, t0, t1, f, txf, sp, kf, ik, gm, ga, gt, A, ⟨⟨by omega, by omega⟩, ⟨by omega, by omega⟩, ⟨by omega, by omega⟩, by omega, by omega, by omega, by omega, by omega, by omega⟩, htx, hM_0, hM_1, hM_2, hM_3, hM_4, hM_5, hM_6, hM_7, hM_8, hM_9, hM_10, hM_11, busR.mono hB (by omega), (hS0.mono (by omega)), (hS1.mono (by omega)), hMs⟩
    · exact absurd rfl c_1
  · refine g_aload_n hC dL_law_787 1 rfl gRef_r 788 rfl ?_
    refine g_aload_n hC dL_law_788 0 rfl gRef_r 789 rfl ?_
    refine g_iload_n hC dL_law_789 3 rfl 790 rfl ?_
    refine g_iconst hC dL_law_790 ki_1 791 rfl ?_
    refine g_iadd hC dL_law_791 792 rfl ?_
    refine g_topi (y := nI (6 * j + 1)) (nI_a (a := (6 * j)) (b := 1) (c := (6 * j + 1)) (by omega)) ?_
    refine g_scr hC hX hbz (i := 6 * j + 1) (by omega) hL dL_law_792 793 rfl ?_
    refine g_calliP (g_V (As := [.int (xs (6 * j + 1))]) (rest := []) hC mvX0_lastError q2352 (gOf.of hC.K cI0 hM_0) (met_X_lastError_n l G M x sv ms tx (nI lc) ta of f q (xs (6 * j + 1)) hx hM_0) ⟨rfl, rfl⟩ ⟨(Nat.le_of_ble_eq_true rfl), (Nat.le_of_ble_eq_true rfl)⟩ rfl (Nat.le_of_ble_eq_true rfl) dL_law_793 rfl ⟨(by first | omega | exact Nat.le_of_ble_eq_true rfl | (show _ ≤ 601471; omega) | (show _ ≤ 7291690; omega)), (by first | omega | exact Nat.le_of_ble_eq_true rfl | (show _ ≤ 601471; omega) | (show _ ≤ 7291690; omega))⟩) 796 rfl (70000 * j + 20000) (by first | omega | exact Nat.le_of_ble_eq_true rfl | (show _ ≤ 601471; omega) | (show _ ≤ 7291690; omega)) ?_
    refine g_aload_n hC dL_law_796 2 rfl gRef_r 797 rfl ?_
    refine g_aload_n hC dL_law_797 0 rfl gRef_r 798 rfl ?_
    refine g_iload_n hC dL_law_798 3 rfl 799 rfl ?_
    refine g_iconst hC dL_law_799 ki_1 800 rfl ?_
    refine g_iadd hC dL_law_800 801 rfl ?_
    refine g_topi (y := nI (6 * j + 1)) (nI_a (a := (6 * j)) (b := 1) (c := (6 * j + 1)) (by omega)) ?_
    refine g_scr hC hX hbz (i := 6 * j + 1) (by omega) hL dL_law_801 802 rfl ?_
    refine g_calliP (g_V (As := [.int (xs (6 * j + 1))]) (rest := [.int (-1)]) hC mvX8_lastError q3231 (gOf.of hC.K cI7 hM_3) (met_T_lastError_n l G M m0 av asp ak aik atx (nI lc) am (nI mc) aa (nI pc_) ato f (xs (6 * j + 1)) hx hM_3 hM_4) ⟨rfl, rfl⟩ ⟨(Nat.le_of_ble_eq_true rfl), (Nat.le_of_ble_eq_true rfl)⟩ rfl (Nat.le_of_ble_eq_true rfl) dL_law_802 rfl ⟨(by first | omega | exact Nat.le_of_ble_eq_true rfl | (show _ ≤ 601471; omega) | (show _ ≤ 7291690; omega)), (by first | omega | exact Nat.le_of_ble_eq_true rfl | (show _ ≤ 601471; omega) | (show _ ≤ 7291690; omega))⟩) 805 rfl (70000 * j + 20000) (by first | omega | exact Nat.le_of_ble_eq_true rfl | (show _ ≤ 601471; omega) | (show _ ≤ 7291690; omega)) ?_
    refine g_icmp_eq hC dL_law_805 1649 rfl 808 rfl (fun c_2 => ?_) (fun c_2 => ?_)
    · exact ih M ⟨ta, of, sv, ms, tx, lc, av, asp, ak, aik, atx, am, mc, aa, pc_, ato, t0, t1, f, txf, sp, kf, ik, gm, ga, gt, A, ⟨⟨by omega, by omega⟩, ⟨by omega, by omega⟩, ⟨by omega, by omega⟩, by omega, by omega, by omega, by omega, by omega, by omega⟩, htx, hM_0, hM_1, hM_2, hM_3, hM_4, hM_5, hM_6, hM_7, hM_8, hM_9, hM_10, hM_11, busR.mono hB (by omega), (hS0.mono (by omega)), (hS1.mono (by omega)), hMs⟩
    · exact absurd c_2 (by decide)
set_option maxHeartbeats 4000000 in
theorem lwc_18 {nm : String} {p : Program} {l : Launch} {e : Env} {s : State} {m : MethodId} {args : Array Value} {below : List Frame} {meth : Method} {c : Code} {G : gG} {Q : State → Prop} {M : gM} {b L x m0 q j : Nat} {xs : Nat → Int32} (hC : gC p s m args meth c G 4 cL_law "ArbitratedBusLaw" nm (some .boolean)) (hX : va_X b L xs s s.heap) (hbz : b < s.heap.size ∧ b < gz G) (hL : L ≤ 384) (hj : 6 * j + 6 ≤ L) (hqj : q ≤ 1100 * j) (hI : LW M G x m0 q) (ih : ∀ M', LW M' G x m0 (q + 1100) → gJ p l e room_1 s m args below meth c G 4 Q (9200 * (j + 1) + 300) (70000 * (j + 1) + 20000) M' 1649 [(0, .ref b), (1, .ref x), (2, .ref m0), (3, .int (nI (6 * j)))] []) : gJ p l e room_1 s m args below meth c G 4 Q (9200 * j + 300) (70000 * j + 20000) M 810 [(0, .ref b), (1, .ref x), (2, .ref m0), (3, .int (nI (6 * j)))] [] := by
  obtain ⟨ta, of, sv, ms, tx, lc, av, asp, ak, aik, atx, am, mc, aa, pc_, ato, t0, t1, f, txf, sp, kf, ik, gm, ga, gt, A, ⟨⟨hta2, hta6⟩, ⟨ht02, ht06⟩, ⟨ht12, ht16⟩, ha0, ha1, h01, hlc, hpc, hmc⟩, htx, hM_0, hM_1, hM_2, hM_3, hM_4, hM_5, hM_6, hM_7, hM_8, hM_9, hM_10, hM_11, hB, hS0, hS1, hMs⟩ := hI
  have hokA := busR.ok hB (by omega)
  by_cases hx : (0 ≤ xs (6 * j + 1) ∧ xs (6 * j + 1) ≤ 3)
  · obtain ⟨k, hk, ek⟩ := nk_of hx
    refine g_aload_n hC dL_law_810 1 rfl gRef_r 811 rfl ?_
    refine g_aload_n hC dL_law_811 0 rfl gRef_r 812 rfl ?_
    refine g_iload_n hC dL_law_812 3 rfl 813 rfl ?_
    refine g_iconst hC dL_law_813 ki_1 814 rfl ?_
    refine g_iadd hC dL_law_814 815 rfl ?_
    refine g_topi (y := nI (6 * j + 1)) (nI_a (a := (6 * j)) (b := 1) (c := (6 * j + 1)) (by omega)) ?_
    refine g_scr hC hX hbz (i := 6 * j + 1) (by omega) hL dL_law_815 816 rfl ?_
    refine g_topi (y := nI k) ek ?_
    refine g_calliP (g_V (As := [.int (nI k)]) (rest := []) hC mvX0_lostArbitrations q2356 (gOf.of hC.K cI0 hM_0) (met_X_lostArbitrations l G M x sv ms tx (nI lc) ta of f q k ⟨by omega, by omega⟩ hk hM_0 hB) ⟨rfl, rfl⟩ ⟨(Nat.le_of_ble_eq_true rfl), (Nat.le_of_ble_eq_true rfl)⟩ rfl (Nat.le_of_ble_eq_true rfl) dL_law_816 rfl ⟨(by first | omega | exact Nat.le_of_ble_eq_true rfl | (show _ ≤ 601471; omega) | (show _ ≤ 7291690; omega)), (by first | omega | exact Nat.le_of_ble_eq_true rfl | (show _ ≤ 601471; omega) | (show _ ≤ 7291690; omega))⟩) 819 rfl (70000 * j + 20000) (by first | omega | exact Nat.le_of_ble_eq_true rfl | (show _ ≤ 601471; omega) | (show _ ≤ 7291690; omega)) ?_
    refine g_aload_n hC dL_law_819 2 rfl gRef_r 820 rfl ?_
    refine g_aload_n hC dL_law_820 0 rfl gRef_r 821 rfl ?_
    refine g_iload_n hC dL_law_821 3 rfl 822 rfl ?_
    refine g_iconst hC dL_law_822 ki_1 823 rfl ?_
    refine g_iadd hC dL_law_823 824 rfl ?_
    refine g_topi (y := nI (6 * j + 1)) (nI_a (a := (6 * j)) (b := 1) (c := (6 * j + 1)) (by omega)) ?_
    refine g_scr hC hX hbz (i := 6 * j + 1) (by omega) hL dL_law_824 825 rfl ?_
    refine g_topi (y := nI k) ek ?_
    refine g_calliP (g_V (As := [.int (nI k)]) (rest := [.int (f (256 * k + 12))]) hC mvX8_lostArbitrations q3239 (gOf.of hC.K cI7 hM_3) (met_T_lostArbitrations l G M m0 av asp ak aik atx (nI lc) am (nI mc) aa (nI pc_) ato f k hk hM_3 hM_4) ⟨rfl, rfl⟩ ⟨(Nat.le_of_ble_eq_true rfl), (Nat.le_of_ble_eq_true rfl)⟩ rfl (Nat.le_of_ble_eq_true rfl) dL_law_825 rfl ⟨(by first | omega | exact Nat.le_of_ble_eq_true rfl | (show _ ≤ 601471; omega) | (show _ ≤ 7291690; omega)), (by first | omega | exact Nat.le_of_ble_eq_true rfl | (show _ ≤ 601471; omega) | (show _ ≤ 7291690; omega))⟩) 828 rfl (70000 * j + 20000) (by first | omega | exact Nat.le_of_ble_eq_true rfl | (show _ ≤ 601471; omega) | (show _ ≤ 7291690; omega)) ?_
    refine g_icmp_eq hC dL_law_828 1649 rfl 831 rfl (fun c_1 => ?_) (fun c_1 => ?_)
    · exact ih M ⟨ta, of, sv, ms, tx, lc, av, asp, ak, aik, atx, am, mc, aa, pc_, ato, t0, t1, f, txf, sp, kf, ik, gm, ga, gt, A, ⟨⟨by omega, by omega⟩, ⟨by omega, by omega⟩, ⟨by omega, by omega⟩, by omega, by omega, by omega, by omega, by omega, by omega⟩, htx, hM_0, hM_1, hM_2, hM_3, hM_4, hM_5, hM_6, hM_7, hM_8, hM_9, hM_10, hM_11, busR.mono hB (by omega), (hS0.mono (by omega)), (hS1.mono (by omega)), hMs⟩
    · exact absurd rfl c_1
  · refine g_aload_n hC dL_law_810 1 rfl gRef_r 811 rfl ?_
    refine g_aload_n hC dL_law_811 0 rfl gRef_r 812 rfl ?_
    refine g_iload_n hC dL_law_812 3 rfl 813 rfl ?_
    refine g_iconst hC dL_law_813 ki_1 814 rfl ?_
    refine g_iadd hC dL_law_814 815 rfl ?_
    refine g_topi (y := nI (6 * j + 1)) (nI_a (a := (6 * j)) (b := 1) (c := (6 * j + 1)) (by omega)) ?_
    refine g_scr hC hX hbz (i := 6 * j + 1) (by omega) hL dL_law_815 816 rfl ?_
    refine g_calliP (g_V (As := [.int (xs (6 * j + 1))]) (rest := []) hC mvX0_lostArbitrations q2356 (gOf.of hC.K cI0 hM_0) (met_X_lostArbitrations_n l G M x sv ms tx (nI lc) ta of f q (xs (6 * j + 1)) hx hM_0) ⟨rfl, rfl⟩ ⟨(Nat.le_of_ble_eq_true rfl), (Nat.le_of_ble_eq_true rfl)⟩ rfl (Nat.le_of_ble_eq_true rfl) dL_law_816 rfl ⟨(by first | omega | exact Nat.le_of_ble_eq_true rfl | (show _ ≤ 601471; omega) | (show _ ≤ 7291690; omega)), (by first | omega | exact Nat.le_of_ble_eq_true rfl | (show _ ≤ 601471; omega) | (show _ ≤ 7291690; omega))⟩) 819 rfl (70000 * j + 20000) (by first | omega | exact Nat.le_of_ble_eq_true rfl | (show _ ≤ 601471; omega) | (show _ ≤ 7291690; omega)) ?_
    refine g_aload_n hC dL_law_819 2 rfl gRef_r 820 rfl ?_
    refine g_aload_n hC dL_law_820 0 rfl gRef_r 821 rfl ?_
    refine g_iload_n hC dL_law_821 3 rfl 822 rfl ?_
    refine g_iconst hC dL_law_822 ki_1 823 rfl ?_
    refine g_iadd hC dL_law_823 824 rfl ?_
    refine g_topi (y := nI (6 * j + 1)) (nI_a (a := (6 * j)) (b := 1) (c := (6 * j + 1)) (by omega)) ?_
    refine g_scr hC hX hbz (i := 6 * j + 1) (by omega) hL dL_law_824 825 rfl ?_
    refine g_calliP (g_V (As := [.int (xs (6 * j + 1))]) (rest := [.int (-1)]) hC mvX8_lostArbitrations q3239 (gOf.of hC.K cI7 hM_3) (met_T_lostArbitrations_n l G M m0 av asp ak aik atx (nI lc) am (nI mc) aa (nI pc_) ato f (xs (6 * j + 1)) hx hM_3 hM_4) ⟨rfl, rfl⟩ ⟨(Nat.le_of_ble_eq_true rfl), (Nat.le_of_ble_eq_true rfl)⟩ rfl (Nat.le_of_ble_eq_true rfl) dL_law_825 rfl ⟨(by first | omega | exact Nat.le_of_ble_eq_true rfl | (show _ ≤ 601471; omega) | (show _ ≤ 7291690; omega)), (by first | omega | exact Nat.le_of_ble_eq_true rfl | (show _ ≤ 601471; omega) | (show _ ≤ 7291690; omega))⟩) 828 rfl (70000 * j + 20000) (by first | omega | exact Nat.le_of_ble_eq_true rfl | (show _ ≤ 601471; omega) | (show _ ≤ 7291690; omega)) ?_
    refine g_icmp_eq hC dL_law_828 1649 rfl 831 rfl (fun c_2 => ?_) (fun c_2 => ?_)
    · exact ih M ⟨ta, of, sv, ms, tx, lc, av, asp, ak, aik, atx, am, mc, aa, pc_, ato, t0, t1, f, txf, sp, kf, ik, gm, ga, gt, A, ⟨⟨by omega, by omega⟩, ⟨by omega, by omega⟩, ⟨by omega, by omega⟩, by omega, by omega, by omega, by omega, by omega, by omega⟩, htx, hM_0, hM_1, hM_2, hM_3, hM_4, hM_5, hM_6, hM_7, hM_8, hM_9, hM_10, hM_11, busR.mono hB (by omega), (hS0.mono (by omega)), (hS1.mono (by omega)), hMs⟩
    · exact absurd c_2 (by decide)
set_option maxHeartbeats 4000000 in
theorem lwc_19 {nm : String} {p : Program} {l : Launch} {e : Env} {s : State} {m : MethodId} {args : Array Value} {below : List Frame} {meth : Method} {c : Code} {G : gG} {Q : State → Prop} {M : gM} {b L x m0 q j : Nat} {xs : Nat → Int32} (hC : gC p s m args meth c G 4 cL_law "ArbitratedBusLaw" nm (some .boolean)) (hX : va_X b L xs s s.heap) (hbz : b < s.heap.size ∧ b < gz G) (hL : L ≤ 384) (hj : 6 * j + 6 ≤ L) (hqj : q ≤ 1100 * j) (hI : LW M G x m0 q) (ih : ∀ M', LW M' G x m0 (q + 1100) → gJ p l e room_1 s m args below meth c G 4 Q (9200 * (j + 1) + 300) (70000 * (j + 1) + 20000) M' 1649 [(0, .ref b), (1, .ref x), (2, .ref m0), (3, .int (nI (6 * j)))] []) : gJ p l e room_1 s m args below meth c G 4 Q (9200 * j + 300) (70000 * j + 20000) M 833 [(0, .ref b), (1, .ref x), (2, .ref m0), (3, .int (nI (6 * j)))] [] := by
  obtain ⟨ta, of, sv, ms, tx, lc, av, asp, ak, aik, atx, am, mc, aa, pc_, ato, t0, t1, f, txf, sp, kf, ik, gm, ga, gt, A, ⟨⟨hta2, hta6⟩, ⟨ht02, ht06⟩, ⟨ht12, ht16⟩, ha0, ha1, h01, hlc, hpc, hmc⟩, htx, hM_0, hM_1, hM_2, hM_3, hM_4, hM_5, hM_6, hM_7, hM_8, hM_9, hM_10, hM_11, hB, hS0, hS1, hMs⟩ := hI
  have hokA := busR.ok hB (by omega)
  by_cases hx : (0 ≤ xs (6 * j + 1) ∧ xs (6 * j + 1) ≤ 3)
  · obtain ⟨k, hk, ek⟩ := nk_of hx
    refine g_aload_n hC dL_law_833 1 rfl gRef_r 834 rfl ?_
    refine g_aload_n hC dL_law_834 0 rfl gRef_r 835 rfl ?_
    refine g_iload_n hC dL_law_835 3 rfl 836 rfl ?_
    refine g_iconst hC dL_law_836 ki_1 837 rfl ?_
    refine g_iadd hC dL_law_837 838 rfl ?_
    refine g_topi (y := nI (6 * j + 1)) (nI_a (a := (6 * j)) (b := 1) (c := (6 * j + 1)) (by omega)) ?_
    refine g_scr hC hX hbz (i := 6 * j + 1) (by omega) hL dL_law_838 839 rfl ?_
    refine g_topi (y := nI k) ek ?_
    refine g_calliP (g_V (As := [.int (nI k)]) (rest := []) hC mvX0_overloads q2360 (gOf.of hC.K cI0 hM_0) (met_X_overloads l G M x sv ms tx (nI lc) ta of f q k ⟨by omega, by omega⟩ hk hM_0 hB) ⟨rfl, rfl⟩ ⟨(Nat.le_of_ble_eq_true rfl), (Nat.le_of_ble_eq_true rfl)⟩ rfl (Nat.le_of_ble_eq_true rfl) dL_law_839 rfl ⟨(by first | omega | exact Nat.le_of_ble_eq_true rfl | (show _ ≤ 601471; omega) | (show _ ≤ 7291690; omega)), (by first | omega | exact Nat.le_of_ble_eq_true rfl | (show _ ≤ 601471; omega) | (show _ ≤ 7291690; omega))⟩) 842 rfl (70000 * j + 20000) (by first | omega | exact Nat.le_of_ble_eq_true rfl | (show _ ≤ 601471; omega) | (show _ ≤ 7291690; omega)) ?_
    refine g_aload_n hC dL_law_842 2 rfl gRef_r 843 rfl ?_
    refine g_aload_n hC dL_law_843 0 rfl gRef_r 844 rfl ?_
    refine g_iload_n hC dL_law_844 3 rfl 845 rfl ?_
    refine g_iconst hC dL_law_845 ki_1 846 rfl ?_
    refine g_iadd hC dL_law_846 847 rfl ?_
    refine g_topi (y := nI (6 * j + 1)) (nI_a (a := (6 * j)) (b := 1) (c := (6 * j + 1)) (by omega)) ?_
    refine g_scr hC hX hbz (i := 6 * j + 1) (by omega) hL dL_law_847 848 rfl ?_
    refine g_topi (y := nI k) ek ?_
    refine g_calliP (g_V (As := [.int (nI k)]) (rest := [.int (f (256 * k + 13))]) hC mvX8_overloads q3243 (gOf.of hC.K cI7 hM_3) (met_T_overloads l G M m0 av asp ak aik atx (nI lc) am (nI mc) aa (nI pc_) ato f k hk hM_3 hM_4) ⟨rfl, rfl⟩ ⟨(Nat.le_of_ble_eq_true rfl), (Nat.le_of_ble_eq_true rfl)⟩ rfl (Nat.le_of_ble_eq_true rfl) dL_law_848 rfl ⟨(by first | omega | exact Nat.le_of_ble_eq_true rfl | (show _ ≤ 601471; omega) | (show _ ≤ 7291690; omega)), (by first | omega | exact Nat.le_of_ble_eq_true rfl | (show _ ≤ 601471; omega) | (show _ ≤ 7291690; omega))⟩) 851 rfl (70000 * j + 20000) (by first | omega | exact Nat.le_of_ble_eq_true rfl | (show _ ≤ 601471; omega) | (show _ ≤ 7291690; omega)) ?_
    refine g_icmp_eq hC dL_law_851 1649 rfl 854 rfl (fun c_1 => ?_) (fun c_1 => ?_)
    · exact ih M ⟨ta, of, sv, ms, tx, lc, av, asp, ak, aik, atx, am, mc, aa, pc_, ato, t0, t1, f, txf, sp, kf, ik, gm, ga, gt, A, ⟨⟨by omega, by omega⟩, ⟨by omega, by omega⟩, ⟨by omega, by omega⟩, by omega, by omega, by omega, by omega, by omega, by omega⟩, htx, hM_0, hM_1, hM_2, hM_3, hM_4, hM_5, hM_6, hM_7, hM_8, hM_9, hM_10, hM_11, busR.mono hB (by omega), (hS0.mono (by omega)), (hS1.mono (by omega)), hMs⟩
    · exact absurd rfl c_1
  · refine g_aload_n hC dL_law_833 1 rfl gRef_r 834 rfl ?_
    refine g_aload_n hC dL_law_834 0 rfl gRef_r 835 rfl ?_
    refine g_iload_n hC dL_law_835 3 rfl 836 rfl ?_
    refine g_iconst hC dL_law_836 ki_1 837 rfl ?_
    refine g_iadd hC dL_law_837 838 rfl ?_
    refine g_topi (y := nI (6 * j + 1)) (nI_a (a := (6 * j)) (b := 1) (c := (6 * j + 1)) (by omega)) ?_
    refine g_scr hC hX hbz (i := 6 * j + 1) (by omega) hL dL_law_838 839 rfl ?_
    refine g_calliP (g_V (As := [.int (xs (6 * j + 1))]) (rest := []) hC mvX0_overloads q2360 (gOf.of hC.K cI0 hM_0) (met_X_overloads_n l G M x sv ms tx (nI lc) ta of f q (xs (6 * j + 1)) hx hM_0) ⟨rfl, rfl⟩ ⟨(Nat.le_of_ble_eq_true rfl), (Nat.le_of_ble_eq_true rfl)⟩ rfl (Nat.le_of_ble_eq_true rfl) dL_law_839 rfl ⟨(by first | omega | exact Nat.le_of_ble_eq_true rfl | (show _ ≤ 601471; omega) | (show _ ≤ 7291690; omega)), (by first | omega | exact Nat.le_of_ble_eq_true rfl | (show _ ≤ 601471; omega) | (show _ ≤ 7291690; omega))⟩) 842 rfl (70000 * j + 20000) (by first | omega | exact Nat.le_of_ble_eq_true rfl | (show _ ≤ 601471; omega) | (show _ ≤ 7291690; omega)) ?_
    refine g_aload_n hC dL_law_842 2 rfl gRef_r 843 rfl ?_
    refine g_aload_n hC dL_law_843 0 rfl gRef_r 844 rfl ?_
    refine g_iload_n hC dL_law_844 3 rfl 845 rfl ?_
    refine g_iconst hC dL_law_845 ki_1 846 rfl ?_
    refine g_iadd hC dL_law_846 847 rfl ?_
    refine g_topi (y := nI (6 * j + 1)) (nI_a (a := (6 * j)) (b := 1) (c := (6 * j + 1)) (by omega)) ?_
    refine g_scr hC hX hbz (i := 6 * j + 1) (by omega) hL dL_law_847 848 rfl ?_
    refine g_calliP (g_V (As := [.int (xs (6 * j + 1))]) (rest := [.int (-1)]) hC mvX8_overloads q3243 (gOf.of hC.K cI7 hM_3) (met_T_overloads_n l G M m0 av asp ak aik atx (nI lc) am (nI mc) aa (nI pc_) ato f (xs (6 * j + 1)) hx hM_3 hM_4) ⟨rfl, rfl⟩ ⟨(Nat.le_of_ble_eq_true rfl), (Nat.le_of_ble_eq_true rfl)⟩ rfl (Nat.le_of_ble_eq_true rfl) dL_law_848 rfl ⟨(by first | omega | exact Nat.le_of_ble_eq_true rfl | (show _ ≤ 601471; omega) | (show _ ≤ 7291690; omega)), (by first | omega | exact Nat.le_of_ble_eq_true rfl | (show _ ≤ 601471; omega) | (show _ ≤ 7291690; omega))⟩) 851 rfl (70000 * j + 20000) (by first | omega | exact Nat.le_of_ble_eq_true rfl | (show _ ≤ 601471; omega) | (show _ ≤ 7291690; omega)) ?_
    refine g_icmp_eq hC dL_law_851 1649 rfl 854 rfl (fun c_2 => ?_) (fun c_2 => ?_)
    · exact ih M ⟨ta, of, sv, ms, tx, lc, av, asp, ak, aik, atx, am, mc, aa, pc_, ato, t0, t1, f, txf, sp, kf, ik, gm, ga, gt, A, ⟨⟨by omega, by omega⟩, ⟨by omega, by omega⟩, ⟨by omega, by omega⟩, by omega, by omega, by omega, by omega, by omega, by omega⟩, htx, hM_0, hM_1, hM_2, hM_3, hM_4, hM_5, hM_6, hM_7, hM_8, hM_9, hM_10, hM_11, busR.mono hB (by omega), (hS0.mono (by omega)), (hS1.mono (by omega)), hMs⟩
    · exact absurd c_2 (by decide)
