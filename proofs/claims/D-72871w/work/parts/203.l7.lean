/-! the law: its start, its switch, its loop -/
set_option maxRecDepth 100000
set_option maxHeartbeats 4000000 in
theorem law_init {nm : String} {p : Program} {l : Launch} {e : Env} {s : State} {m : MethodId} {args : Array Value} {below : List Frame} {meth : Method} {c : Code} {G : gG} {Q : State → Prop} {M : gM} {b : Nat} (hC : gC p s m args meth c G 4 cL_law "ArbitratedBusLaw" nm (some .boolean)) (ih : ∀ (M' : gM) (x m0 : Nat), LW M' G x m0 0 → gJ p l e room_1 s m args below meth c G 4 Q (9200 * 0 + 300) (70000 * 0 + 20000) M' 18 [(0, .ref b), (1, .ref x), (2, .ref m0), (3, .int (nI (6 * 0)))] []) : gJ p l e room_1 s m args below meth c G 4 Q 0 0 M 0 [(0, .ref b)] [] := by
  refine g_new hC cI0 q170 q171 q102 df0 (8, 0) (by first | exact Nat.le_of_ble_eq_true rfl | omega) (by first | exact Nat.le_of_ble_eq_true rfl | omega) 1 (by first | exact Nat.le_of_ble_eq_true rfl | omega) 5 (by first | exact Nat.le_of_ble_eq_true rfl | omega) dL_law_0 3 rfl (fun a1 M2 hN3 => ?_)
  refine g_dup hC dL_law_3 rfl 4 rfl ?_
  refine g_callv (g_I (As := []) (rest := [.ref a1]) hC miX0_init q172 (met_X_init l G M2 a1 hN3.2.1) ⟨rfl, rfl⟩ ⟨(Nat.le_of_ble_eq_true rfl), (Nat.le_of_ble_eq_true rfl)⟩ rfl (Nat.le_of_ble_eq_true rfl) dL_law_4 rfl ⟨(by first | exact Nat.le_of_ble_eq_true rfl | omega), (by first | exact Nat.le_of_ble_eq_true rfl | omega)⟩) 46 (by first | exact Nat.le_of_ble_eq_true rfl | omega) 680 (by first | exact Nat.le_of_ble_eq_true rfl | omega) 7 rfl (fun M4 k5 hp6 => ?_)
  obtain ⟨of_8, sv_9, ms_10, tx_11, an_12, hc13, hc14, hc15, hc16, hpd17, hpd18, hF19, hk20⟩ := hp6
  obtain ⟨F21, eF22⟩ : ∃ z9, z9 = fun _ => 0 := ⟨_, rfl⟩
  rw [← eF22] at hc16
  refine g_astore_n hC dL_law_7 rfl gRef_r (Nat.le_of_ble_eq_true rfl) [(1, .ref a1), (0, .ref b)] rfl 8 rfl ?_
  refine g_new hC cI7 q2933 q2934 q120 df7 (1, 0) (by first | exact Nat.le_of_ble_eq_true rfl | omega) (by first | exact Nat.le_of_ble_eq_true rfl | omega) 47 (by first | exact Nat.le_of_ble_eq_true rfl | omega) 691 (by first | exact Nat.le_of_ble_eq_true rfl | omega) dL_law_8 11 rfl (fun a23 M24 hN25 => ?_)
  refine g_dup hC dL_law_11 rfl 12 rfl ?_
  refine g_callv (g_I (As := []) (rest := [.ref a23]) hC miX8_init q2935 (met_T_new l G M24 a23 hN25.2.1) ⟨rfl, rfl⟩ ⟨(Nat.le_of_ble_eq_true rfl), (Nat.le_of_ble_eq_true rfl)⟩ rfl (Nat.le_of_ble_eq_true rfl) dL_law_12 rfl ⟨(by first | exact Nat.le_of_ble_eq_true rfl | omega), (by first | exact Nat.le_of_ble_eq_true rfl | omega)⟩) 55 (by first | exact Nat.le_of_ble_eq_true rfl | omega) 6156 (by first | exact Nat.le_of_ble_eq_true rfl | omega) 15 rfl (fun M26 k27 hp28 => ?_)
  obtain ⟨av_30, asp_31, ak_32, aik_33, atx_34, am_35, aa_36, ato_37, hc38, hc39, hc40, hc41, hc42, hc43, hc44, hc45, hc46, hF47, hk48⟩ := hp28
  obtain ⟨F49, eF50⟩ : ∃ z9, z9 = fun _ => 0 := ⟨_, rfl⟩
  rw [← eF50] at hc40
  obtain ⟨F51, eF52⟩ : ∃ z9, z9 = fun _ => 0 := ⟨_, rfl⟩
  rw [← eF52] at hc41
  obtain ⟨F53, eF54⟩ : ∃ z9, z9 = fun _ => 0 := ⟨_, rfl⟩
  rw [← eF54] at hc42
  obtain ⟨F55, eF56⟩ : ∃ z9, z9 = fun _ => 0 := ⟨_, rfl⟩
  rw [← eF56] at hc43
  obtain ⟨F57, eF58⟩ : ∃ z9, z9 = fun _ => 0 := ⟨_, rfl⟩
  rw [← eF58] at hc44
  obtain ⟨F59, eF60⟩ : ∃ z9, z9 = fun _ => 0 := ⟨_, rfl⟩
  rw [← eF60] at hc45
  obtain ⟨F61, eF62⟩ : ∃ z9, z9 = fun _ => 0 := ⟨_, rfl⟩
  rw [← eF62] at hc46
  have hH63 := (hF47 _ _ _ (hN25.n hc13) (gno (hN25.ne hc13) gno0))
  have hH64 := (hF47 _ _ _ (hN25.n hc14) (gno (hN25.ne hc14) gno0))
  have hH65 := (hF47 _ _ _ (hN25.n hc15) (gno (hN25.ne hc15) gno0))
  have hH66 := (hF47 _ _ _ (hN25.n hc16) (gno (hN25.ne hc16) gno0))
  have hH67 : busR M26 G 2 of_8 T_init 0 := (busR.fr hpd17 ((gFr.refl.nw hN25).trf hF47 (fun b t e hb hn => (gno (hN25.ne (gFr.refl b t e hb hn)) gno0))))
  have hH68 : isTM M26 G (8, 3) (8, 4) an_12 ([] : List (Int32 × Nat)) := (isTM.fr hpd18 ((gFr.refl.nw hN25).trf hF47 (fun b t e hb hn => (gno (hN25.ne (gFr.refl b t e hb hn)) gno0))))
  refine g_astore_n hC dL_law_15 rfl gRef_r (Nat.le_of_ble_eq_true rfl) [(2, .ref a23), (1, .ref a1), (0, .ref b)] rfl 16 rfl ?_
  refine g_iconst hC dL_law_16 ki_0 17 rfl ?_
  refine g_istore_n hC dL_law_17 rfl (Nat.le_of_ble_eq_true rfl) [(3, .int 0), (2, .ref a23), (1, .ref a1), (0, .ref b)] rfl 18 rfl ?_
  refine gJ.sub (M' := M26) [3, 2, 1, 0] rfl ?_
  refine gJ.widen (k := 9200 * 0 + 300) (n := 70000 * 0 + 20000) (by first | exact Nat.le_of_ble_eq_true rfl | omega) (by first | exact Nat.le_of_ble_eq_true rfl | omega) ?_
  exact ih M26 a1 a23 ⟨2, of_8, sv_9, ms_10, tx_11, 0, av_30, asp_31, ak_32, aik_33, atx_34, am_35, 0, aa_36, 0, ato_37, 3, 4, T_init, (fun _ => 0), (fun _ => 0), (fun _ => 0), (fun _ => 0), (fun _ => 0), (fun _ => 0), (fun _ => 0), (fun _ => none), ⟨⟨by omega, by omega⟩, ⟨by omega, by omega⟩, ⟨by omega, by omega⟩, by omega, by omega, by omega, by omega, by omega, by omega⟩, (fun _ => ⟨by decide, by decide⟩), hH63, hH64, (by have h9 := hH66; rw [eF22] at h9; exact h9), hc38, hc39, (by have h9 := hc40; rw [eF50] at h9; exact h9), (by have h9 := hc41; rw [eF52] at h9; exact h9), (by have h9 := hc42; rw [eF54] at h9; exact h9), (by have h9 := hc43; rw [eF56] at h9; exact h9), (by have h9 := hc44; rw [eF58] at h9; exact h9), (by have h9 := hc45; rw [eF60] at h9; exact h9), (by have h9 := hc46; rw [eF62] at h9; exact h9), hH67, (Or.inl ⟨rfl, rfl⟩), (Or.inl ⟨rfl, rfl⟩), ⟨an_12, [], fun _ => (0, 0, 0, 0), hH65, hH68, (fun e9 he9 => nomatch he9), rM.nil⟩⟩
set_option maxHeartbeats 4000000 in
theorem law_sw {nm : String} {p : Program} {l : Launch} {e : Env} {s : State} {m : MethodId} {args : Array Value} {below : List Frame} {meth : Method} {c : Code} {G : gG} {Q : State → Prop} {M : gM} {b L x m0 q j : Nat} {xs : Nat → Int32} (hC : gC p s m args meth c G 4 cL_law "ArbitratedBusLaw" nm (some .boolean)) (hX : va_X b L xs s s.heap) (hbz : b < s.heap.size ∧ b < gz G) (hL : L ≤ 384) (hj6 : 6 * j + 6 ≤ L) (hqj : q ≤ 1100 * j) (hI : LW M G x m0 q) (ih : ∀ M', LW M' G x m0 (q + 1100) → gJ p l e room_1 s m args below meth c G 4 Q (9200 * (j + 1) + 300) (70000 * (j + 1) + 20000) M' 1649 [(0, .ref b), (1, .ref x), (2, .ref m0), (3, .int (nI (6 * j)))] []) {v : Nat} (hv : v < 2 ^ 6) : gJ p l e room_1 s m args below meth c G 4 Q (9200 * j + 300) (70000 * j + 20000) M 33 [(0, .ref b), (1, .ref x), (2, .ref m0), (3, .int (nI (6 * j)))] [.int (nI v)] := by
  by_cases hv8 : v < 48
  · match v, hv8 with
    | 0, _ => exact g_tblI (x := nI 0) (off := 207) hC dL_law_33 (by decide) (by decide) (by decide) 240 (by decide) (lwc_0 hC hX hbz hL hj6 hqj hI ih)
    | 1, _ => exact g_tblI (x := nI 1) (off := 250) hC dL_law_33 (by decide) (by decide) (by decide) 283 (by decide) (lwc_1 hC hX hbz hL hj6 hqj hI ih)
    | 2, _ => exact g_tblI (x := nI 2) (off := 293) hC dL_law_33 (by decide) (by decide) (by decide) 326 (by decide) (lwc_2 hC hX hbz hL hj6 hqj hI ih)
    | 3, _ => exact g_tblI (x := nI 3) (off := 346) hC dL_law_33 (by decide) (by decide) (by decide) 379 (by decide) (lwc_3 hC hX hbz hL hj6 hqj hI ih)
    | 4, _ => exact g_tblI (x := nI 4) (off := 379) hC dL_law_33 (by decide) (by decide) (by decide) 412 (by decide) (lwc_4 hC hX hbz hL hj6 hqj hI ih)
    | 5, _ => exact g_tblI (x := nI 5) (off := 402) hC dL_law_33 (by decide) (by decide) (by decide) 435 (by decide) (lwc_5 hC hX hbz hL hj6 hqj hI ih)
    | 6, _ => exact g_tblI (x := nI 6) (off := 425) hC dL_law_33 (by decide) (by decide) (by decide) 458 (by decide) (lwc_6 hC hX hbz hL hj6 hqj hI ih)
    | 7, _ => exact g_tblI (x := nI 7) (off := 504) hC dL_law_33 (by decide) (by decide) (by decide) 537 (by decide) (lwc_7 hC hX hbz hL hj6 hqj hI ih)
    | 8, _ => exact g_tblI (x := nI 8) (off := 537) hC dL_law_33 (by decide) (by decide) (by decide) 570 (by decide) (lwc_8 hC hX hbz hL hj6 hqj hI ih)
    | 9, _ => exact g_tblI (x := nI 9) (off := 570) hC dL_law_33 (by decide) (by decide) (by decide) 603 (by decide) (lwc_9 hC hX hbz hL hj6 hqj hI ih)
    | 10, _ => exact g_tblI (x := nI 10) (off := 593) hC dL_law_33 (by decide) (by decide) (by decide) 626 (by decide) (lwc_10 hC hX hbz hL hj6 hqj hI ih)
    | 11, _ => exact g_tblI (x := nI 11) (off := 606) hC dL_law_33 (by decide) (by decide) (by decide) 639 (by decide) (lwc_11 hC hX hbz hL hj6 hqj hI ih)
    | 12, _ => exact g_tblI (x := nI 12) (off := 629) hC dL_law_33 (by decide) (by decide) (by decide) 662 (by decide) (lwc_12 hC hX hbz hL hj6 hqj hI ih)
    | 13, _ => exact g_tblI (x := nI 13) (off := 652) hC dL_law_33 (by decide) (by decide) (by decide) 685 (by decide) (lwc_13 hC hX hbz hL hj6 hqj hI ih)
    | 14, _ => exact g_tblI (x := nI 14) (off := 675) hC dL_law_33 (by decide) (by decide) (by decide) 708 (by decide) (lwc_14 hC hX hbz hL hj6 hqj hI ih)
    | 15, _ => exact g_tblI (x := nI 15) (off := 698) hC dL_law_33 (by decide) (by decide) (by decide) 731 (by decide) (lwc_15 hC hX hbz hL hj6 hqj hI ih)
    | 16, _ => exact g_tblI (x := nI 16) (off := 721) hC dL_law_33 (by decide) (by decide) (by decide) 754 (by decide) (lwc_16 hC hX hbz hL hj6 hqj hI ih)
    | 17, _ => exact g_tblI (x := nI 17) (off := 754) hC dL_law_33 (by decide) (by decide) (by decide) 787 (by decide) (lwc_17 hC hX hbz hL hj6 hqj hI ih)
    | 18, _ => exact g_tblI (x := nI 18) (off := 777) hC dL_law_33 (by decide) (by decide) (by decide) 810 (by decide) (lwc_18 hC hX hbz hL hj6 hqj hI ih)
    | 19, _ => exact g_tblI (x := nI 19) (off := 800) hC dL_law_33 (by decide) (by decide) (by decide) 833 (by decide) (lwc_19 hC hX hbz hL hj6 hqj hI ih)
    | 20, _ => exact g_tblI (x := nI 20) (off := 823) hC dL_law_33 (by decide) (by decide) (by decide) 856 (by decide) (lwc_20 hC hX hbz hL hj6 hqj hI ih)
    | 21, _ => exact g_tblI (x := nI 21) (off := 846) hC dL_law_33 (by decide) (by decide) (by decide) 879 (by decide) (lwc_21 hC hX hbz hL hj6 hqj hI ih)
    | 22, _ => exact g_tblI (x := nI 22) (off := 869) hC dL_law_33 (by decide) (by decide) (by decide) 902 (by decide) (lwc_22 hC hX hbz hL hj6 hqj hI ih)
    | 23, _ => exact g_tblI (x := nI 23) (off := 892) hC dL_law_33 (by decide) (by decide) (by decide) 925 (by decide) (lwc_23 hC hX hbz hL hj6 hqj hI ih)
    | 24, _ => exact g_tblI (x := nI 24) (off := 925) hC dL_law_33 (by decide) (by decide) (by decide) 958 (by decide) (lwc_24 hC hX hbz hL hj6 hqj hI ih)
    | 25, _ => exact g_tblI (x := nI 25) (off := 948) hC dL_law_33 (by decide) (by decide) (by decide) 981 (by decide) (lwc_25 hC hX hbz hL hj6 hqj hI ih)
    | 26, _ => exact g_tblI (x := nI 26) (off := 981) hC dL_law_33 (by decide) (by decide) (by decide) 1014 (by decide) (lwc_26 hC hX hbz hL hj6 hqj hI ih)
    | 27, _ => exact g_tblI (x := nI 27) (off := 1014) hC dL_law_33 (by decide) (by decide) (by decide) 1047 (by decide) (lwc_27 hC hX hbz hL hj6 hqj hI ih)
    | 28, _ => exact g_tblI (x := nI 28) (off := 1047) hC dL_law_33 (by decide) (by decide) (by decide) 1080 (by decide) (lwc_28 hC hX hbz hL hj6 hqj hI ih)
    | 29, _ => exact g_tblI (x := nI 29) (off := 1070) hC dL_law_33 (by decide) (by decide) (by decide) 1103 (by decide) (lwc_29 hC hX hbz hL hj6 hqj hI ih)
    | 30, _ => exact g_tblI (x := nI 30) (off := 1083) hC dL_law_33 (by decide) (by decide) (by decide) 1116 (by decide) (lwc_30 hC hX hbz hL hj6 hqj hI ih)
    | 31, _ => exact g_tblI (x := nI 31) (off := 1106) hC dL_law_33 (by decide) (by decide) (by decide) 1139 (by decide) (lwc_31 hC hX hbz hL hj6 hqj hI ih)
    | 32, _ => exact g_tblI (x := nI 32) (off := 1119) hC dL_law_33 (by decide) (by decide) (by decide) 1152 (by decide) (lwc_32 hC hX hbz hL hj6 hqj hI ih)
    | 33, _ => exact g_tblI (x := nI 33) (off := 1142) hC dL_law_33 (by decide) (by decide) (by decide) 1175 (by decide) (lwc_33 hC hX hbz hL hj6 hqj hI ih)
    | 34, _ => exact g_tblI (x := nI 34) (off := 1211) hC dL_law_33 (by decide) (by decide) (by decide) 1244 (by decide) (lwc_34 hC hX hbz hL hj6 hqj hI ih)
    | 35, _ => exact g_tblI (x := nI 35) (off := 1280) hC dL_law_33 (by decide) (by decide) (by decide) 1313 (by decide) (lwc_35 hC hX hbz hL hj6 hqj hI ih)
    | 36, _ => exact g_tblI (x := nI 36) (off := 1359) hC dL_law_33 (by decide) (by decide) (by decide) 1392 (by decide) (lwc_36 hC hX hbz hL hj6 hqj hI ih)
    | 37, _ => exact g_tblI (x := nI 37) (off := 1382) hC dL_law_33 (by decide) (by decide) (by decide) 1415 (by decide) (lwc_37 hC hX hbz hL hj6 hqj hI ih)
    | 38, _ => exact g_tblI (x := nI 38) (off := 1435) hC dL_law_33 (by decide) (by decide) (by decide) 1468 (by decide) (lwc_38 hC hX hbz hL hj6 hqj hI ih)
    | 39, _ => exact g_tblI (x := nI 39) (off := 1458) hC dL_law_33 (by decide) (by decide) (by decide) 1491 (by decide) (lwc_39 hC hX hbz hL hj6 hqj hI ih)
    | 40, _ => exact g_tblI (x := nI 40) (off := 1481) hC dL_law_33 (by decide) (by decide) (by decide) 1514 (by decide) (lwc_40 hC hX hbz hL hj6 hqj hI ih)
    | 41, _ => exact g_tblI (x := nI 41) (off := 1494) hC dL_law_33 (by decide) (by decide) (by decide) 1527 (by decide) (lwc_41 hC hX hbz hL hj6 hqj hI ih)
    | 42, _ => exact g_tblI (x := nI 42) (off := 1517) hC dL_law_33 (by decide) (by decide) (by decide) 1550 (by decide) (lwc_42 hC hX hbz hL hj6 hqj hI ih)
    | 43, _ => exact g_tblI (x := nI 43) (off := 1530) hC dL_law_33 (by decide) (by decide) (by decide) 1563 (by decide) (lwc_43 hC hX hbz hL hj6 hqj hI ih)
    | 44, _ => exact g_tblI (x := nI 44) (off := 1543) hC dL_law_33 (by decide) (by decide) (by decide) 1576 (by decide) (lwc_44 hC hX hbz hL hj6 hqj hI ih)
    | 45, _ => exact g_tblI (x := nI 45) (off := 1556) hC dL_law_33 (by decide) (by decide) (by decide) 1589 (by decide) (lwc_45 hC hX hbz hL hj6 hqj hI ih)
    | 46, _ => exact g_tblI (x := nI 46) (off := 1579) hC dL_law_33 (by decide) (by decide) (by decide) 1612 (by decide) (lwc_46 hC hX hbz hL hj6 hqj hI ih)
    | 47, _ => exact g_tblI (x := nI 47) (off := 1602) hC dL_law_33 (by decide) (by decide) (by decide) 1635 (by decide) (lwc_47 hC hX hbz hL hj6 hqj hI ih)
    | n + 48, h => exact absurd h (by omega)
  · refine g_tblO (x := nI v) hC dL_law_33 (Or.inr ?_) 1649 (by decide) ?_
    · rw [nI_toInt (by omega)]; omega
    · refine gJ.widen (k := 9200 * (j + 1) + 300) (n := 70000 * (j + 1) + 20000) (by omega) (by omega) ?_
      obtain ⟨ta, of, sv, ms, tx, lc, av, asp, ak, aik, atx, am, mc, aa, pc_, ato, t0, t1, f, txf, sp, kf, ik, gm, ga, gt, A, h1, h2, c0, c1, c2, c3, c4, c5, c6, c7, c8, c9, c10, c11, hB, hS0, hS1, hMs⟩ := hI
      exact ih M ⟨ta, of, sv, ms, tx, lc, av, asp, ak, aik, atx, am, mc, aa, pc_, ato, t0, t1, f, txf, sp, kf, ik, gm, ga, gt, A, h1, h2, c0, c1, c2, c3, c4, c5, c6, c7, c8, c9, c10, c11, busR.mono hB (by omega), sv1.mono hS0 (by omega), sv1.mono hS1 (by omega), hMs⟩
set_option maxHeartbeats 4000000 in
theorem law_loop {nm : String} {p : Program} {l : Launch} {e : Env} {s : State} {m : MethodId} {args : Array Value} {below : List Frame} {meth : Method} {c : Code} {G : gG} {Q : State → Prop} {b L x m0 : Nat} {xs : Nat → Int32} (hC : gC p s m args meth c G 4 cL_law "ArbitratedBusLaw" nm (some .boolean)) (hX : va_X b L xs s s.heap) (hbz : b < s.heap.size ∧ b < gz G) (hL : L ≤ 384) (hend : ∀ (M : gM) (lv : List (Nat × Value)), gJ p l e room_1 s m args below meth c G 4 Q (601471) (7291690) M 1656 lv [.int 1]) :
    ∀ (n j q : Nat) (M : gM), 6 * j ≤ L → L < 6 * j + 6 * n → q ≤ 1100 * j → LW M G x m0 q → gJ p l e room_1 s m args below meth c G 4 Q (9200 * j + 300) (70000 * j + 20000) M 18 [(0, .ref b), (1, .ref x), (2, .ref m0), (3, .int (nI (6 * j)))] [] := by
  intro n
  induction n with
  | zero => intro j q M h1 h2; exact absurd h2 (by omega)
  | succ n IH =>
    intro j q M h1 h2 hqj hI
    refine g_iload_n hC dL_law_18 3 rfl 19 rfl ?_
    refine g_aload_n hC dL_law_19 0 rfl gRef_r 20 rfl ?_
    refine g_scl hC hX hbz dL_law_20 21 rfl ?_
    refine g_bipush hC dL_law_21 kb_6 23 rfl ?_
    refine g_isub hC dL_law_23 24 rfl ?_
    refine g_icmp_gt hC dL_law_24 1655 rfl 27 rfl (fun c1 => ?_) (fun c1 => ?_)
    · refine g_iconst hC dL_law_1655 ki_1 1656 rfl ?_
      refine gJ.widen (k := 601471) (n := 7291690) (by omega) (by omega) ?_
      exact hend M _
    · have hj6 : 6 * j + 6 ≤ L := Nat.not_lt.mp (fun z => c1 ((lp_c hL (by omega)).mpr z))
      refine g_aload_n hC dL_law_27 0 rfl gRef_r 28 rfl ?_
      refine g_iload_n hC dL_law_28 3 rfl 29 rfl ?_
      refine g_scr hC hX hbz (i := 6 * j) (by omega) hL dL_law_29 30 rfl ?_
      refine g_bipush hC dL_law_30 kb_63 32 rfl ?_
      refine g_iand hC dL_law_32 33 rfl ?_
      obtain ⟨v, hv, ev⟩ := pk_andE (xs (6 * j)) (m := 63) 6 (by decide)
      refine g_topi (y := nI v) ev ?_
      have ih : ∀ M', LW M' G x m0 (q + 1100) → gJ p l e room_1 s m args below meth c G 4 Q (9200 * (j + 1) + 300) (70000 * (j + 1) + 20000) M' 1649 [(0, .ref b), (1, .ref x), (2, .ref m0), (3, .int (nI (6 * j)))] [] := by
        intro M' h'
        refine g_iinc hC dL_law_1649 3 rfl (v := nI (6 * (j + 1))) (by rw [ki_6]; exact nI_a (a := 6 * j) (b := 6) (by omega)) (Nat.le_of_ble_eq_true rfl) [(3, .int (nI (6 * (j + 1)))), (0, .ref b), (1, .ref x), (2, .ref m0)] rfl 1652 rfl ?_
        refine g_goto hC dL_law_1652 18 rfl ?_
        refine gJ.sub (M' := M') [1, 2, 3, 0] rfl ?_
        exact IH (j + 1) (q + 1100) M' (by omega) (by omega) (by omega) h'
      clear IH ev
      exact law_sw hC hX hbz hL hj6 hqj hI ih hv
