/-! the law's cases 20 to 26 -/
set_option maxRecDepth 100000
set_option maxHeartbeats 4000000 in
theorem lwc_20 {nm : String} {p : Program} {l : Launch} {e : Env} {s : State} {m : MethodId} {args : Array Value} {below : List Frame} {meth : Method} {c : Code} {G : gG} {Q : State → Prop} {M : gM} {b L x m0 q j : Nat} {xs : Nat → Int32} (hC : gC p s m args meth c G 4 cL_law "ArbitratedBusLaw" nm (some .boolean)) (hX : va_X b L xs s s.heap) (hbz : b < s.heap.size ∧ b < gz G) (hL : L ≤ 384) (hj : 6 * j + 6 ≤ L) (hqj : q ≤ 1100 * j) (hI : LW M G x m0 q) (ih : ∀ M', LW M' G x m0 (q + 1100) → gJ p l e room_1 s m args below meth c G 4 Q (9200 * (j + 1) + 300) (70000 * (j + 1) + 20000) M' 1649 [(0, .ref b), (1, .ref x), (2, .ref m0), (3, .int (nI (6 * j)))] []) : gJ p l e room_1 s m args below meth c G 4 Q (9200 * j + 300) (70000 * j + 20000) M 856 [(0, .ref b), (1, .ref x), (2, .ref m0), (3, .int (nI (6 * j)))] [] := by
  obtain ⟨ta, of, sv, ms, tx, lc, av, asp, ak, aik, atx, am, mc, aa, pc_, ato, t0, t1, f, txf, sp, kf, ik, gm, ga, gt, A, ⟨⟨hta2, hta6⟩, ⟨ht02, ht06⟩, ⟨ht12, ht16⟩, ha0, ha1, h01, hlc, hpc, hmc⟩, htx, hM_0, hM_1, hM_2, hM_3, hM_4, hM_5, hM_6, hM_7, hM_8, hM_9, hM_10, hM_11, hB, hS0, hS1, hMs⟩ := hI
  have hokA := busR.ok hB (by omega)
  by_cases hx : (0 ≤ xs (6 * j + 1) ∧ xs (6 * j + 1) ≤ 3)
  · obtain ⟨k, hk, ek⟩ := nk_of hx
    refine g_aload_n hC dL_law_856 1 rfl gRef_r 857 rfl ?_
    refine g_aload_n hC dL_law_857 0 rfl gRef_r 858 rfl ?_
    refine g_iload_n hC dL_law_858 3 rfl 859 rfl ?_
    refine g_iconst hC dL_law_859 ki_1 860 rfl ?_
    refine g_iadd hC dL_law_860 861 rfl ?_
    refine g_topi (y := nI (6 * j + 1)) (nI_a (a := (6 * j)) (b := 1) (c := (6 * j + 1)) (by omega)) ?_
    refine g_scr hC hX hbz (i := 6 * j + 1) (by omega) hL dL_law_861 862 rfl ?_
    refine g_topi (y := nI k) ek ?_
    refine g_calliP (g_V (As := [.int (nI k)]) (rest := []) hC mvX0_sent q2364 (gOf.of hC.K cI0 hM_0) (met_X_sent l G M x sv ms tx (nI lc) ta of f q k ⟨by omega, by omega⟩ hk hM_0 hB) ⟨rfl, rfl⟩ ⟨(Nat.le_of_ble_eq_true rfl), (Nat.le_of_ble_eq_true rfl)⟩ rfl (Nat.le_of_ble_eq_true rfl) dL_law_862 rfl ⟨(by first | omega | exact Nat.le_of_ble_eq_true rfl | (show _ ≤ 601471; omega) | (show _ ≤ 7291690; omega)), (by first | omega | exact Nat.le_of_ble_eq_true rfl | (show _ ≤ 601471; omega) | (show _ ≤ 7291690; omega))⟩) 865 rfl (70000 * j + 20000) (by first | omega | exact Nat.le_of_ble_eq_true rfl | (show _ ≤ 601471; omega) | (show _ ≤ 7291690; omega)) ?_
    refine g_aload_n hC dL_law_865 2 rfl gRef_r 866 rfl ?_
    refine g_aload_n hC dL_law_866 0 rfl gRef_r 867 rfl ?_
    refine g_iload_n hC dL_law_867 3 rfl 868 rfl ?_
    refine g_iconst hC dL_law_868 ki_1 869 rfl ?_
    refine g_iadd hC dL_law_869 870 rfl ?_
    refine g_topi (y := nI (6 * j + 1)) (nI_a (a := (6 * j)) (b := 1) (c := (6 * j + 1)) (by omega)) ?_
    refine g_scr hC hX hbz (i := 6 * j + 1) (by omega) hL dL_law_870 871 rfl ?_
    refine g_topi (y := nI k) ek ?_
    refine g_calliP (g_V (As := [.int (nI k)]) (rest := [.int (f (256 * k + 14))]) hC mvX8_sent q3247 (gOf.of hC.K cI7 hM_3) (met_T_sent l G M m0 av asp ak aik atx (nI lc) am (nI mc) aa (nI pc_) ato f k hk hM_3 hM_4) ⟨rfl, rfl⟩ ⟨(Nat.le_of_ble_eq_true rfl), (Nat.le_of_ble_eq_true rfl)⟩ rfl (Nat.le_of_ble_eq_true rfl) dL_law_871 rfl ⟨(by first | omega | exact Nat.le_of_ble_eq_true rfl | (show _ ≤ 601471; omega) | (show _ ≤ 7291690; omega)), (by first | omega | exact Nat.le_of_ble_eq_true rfl | (show _ ≤ 601471; omega) | (show _ ≤ 7291690; omega))⟩) 874 rfl (70000 * j + 20000) (by first | omega | exact Nat.le_of_ble_eq_true rfl | (show _ ≤ 601471; omega) | (show _ ≤ 7291690; omega)) ?_
    refine g_icmp_eq hC dL_law_874 1649 rfl 877 rfl (fun c_1 => ?_) (fun c_1 => ?_)
    · exact ih M ⟨ta, of, sv, ms, tx, lc, av, asp, ak, aik, atx, am, mc, aa, pc_, ato, t0, t1, f, txf, sp, kf, ik, gm, ga, gt, A, ⟨⟨by omega, by omega⟩, ⟨by omega, by omega⟩, ⟨by omega, by omega⟩, by omega, by omega, by omega, by omega, by omega, by omega⟩, htx, hM_0, hM_1, hM_2, hM_3, hM_4, hM_5, hM_6, hM_7, hM_8, hM_9, hM_10, hM_11, busR.mono hB (by omega), (hS0.mono (by omega)), (hS1.mono (by omega)), hMs⟩
    · exact absurd rfl c_1
  · refine g_aload_n hC dL_law_856 1 rfl gRef_r 857 rfl ?_
    refine g_aload_n hC dL_law_857 0 rfl gRef_r 858 rfl ?_
    refine g_iload_n hC dL_law_858 3 rfl 859 rfl ?_
    refine g_iconst hC dL_law_859 ki_1 860 rfl ?_
    refine g_iadd hC dL_law_860 861 rfl ?_
    refine g_topi (y := nI (6 * j + 1)) (nI_a (a := (6 * j)) (b := 1) (c := (6 * j + 1)) (by omega)) ?_
    refine g_scr hC hX hbz (i := 6 * j + 1) (by omega) hL dL_law_861 862 rfl ?_
    refine g_calliP (g_V (As := [.int (xs (6 * j + 1))]) (rest := []) hC mvX0_sent q2364 (gOf.of hC.K cI0 hM_0) (met_X_sent_n l G M x sv ms tx (nI lc) ta of f q (xs (6 * j + 1)) hx hM_0) ⟨rfl, rfl⟩ ⟨(Nat.le_of_ble_eq_true rfl), (Nat.le_of_ble_eq_true rfl)⟩ rfl (Nat.le_of_ble_eq_true rfl) dL_law_862 rfl ⟨(by first | omega | exact Nat.le_of_ble_eq_true rfl | (show _ ≤ 601471; omega) | (show _ ≤ 7291690; omega)), (by first | omega | exact Nat.le_of_ble_eq_true rfl | (show _ ≤ 601471; omega) | (show _ ≤ 7291690; omega))⟩) 865 rfl (70000 * j + 20000) (by first | omega | exact Nat.le_of_ble_eq_true rfl | (show _ ≤ 601471; omega) | (show _ ≤ 7291690; omega)) ?_
    refine g_aload_n hC dL_law_865 2 rfl gRef_r 866 rfl ?_
    refine g_aload_n hC dL_law_866 0 rfl gRef_r 867 rfl ?_
    refine g_iload_n hC dL_law_867 3 rfl 868 rfl ?_
    refine g_iconst hC dL_law_868 ki_1 869 rfl ?_
    refine g_iadd hC dL_law_869 870 rfl ?_
    refine g_topi (y := nI (6 * j + 1)) (nI_a (a := (6 * j)) (b := 1) (c := (6 * j + 1)) (by omega)) ?_
    refine g_scr hC hX hbz (i := 6 * j + 1) (by omega) hL dL_law_870 871 rfl ?_
    refine g_calliP (g_V (As := [.int (xs (6 * j + 1))]) (rest := [.int (-1)]) hC mvX8_sent q3247 (gOf.of hC.K cI7 hM_3) (met_T_sent_n l G M m0 av asp ak aik atx (nI lc) am (nI mc) aa (nI pc_) ato f (xs (6 * j + 1)) hx hM_3 hM_4) ⟨rfl, rfl⟩ ⟨(Nat.le_of_ble_eq_true rfl), (Nat.le_of_ble_eq_true rfl)⟩ rfl (Nat.le_of_ble_eq_true rfl) dL_law_871 rfl ⟨(by first | omega | exact Nat.le_of_ble_eq_true rfl | (show _ ≤ 601471; omega) | (show _ ≤ 7291690; omega)), (by first | omega | exact Nat.le_of_ble_eq_true rfl | (show _ ≤ 601471; omega) | (show _ ≤ 7291690; omega))⟩) 874 rfl (70000 * j + 20000) (by first | omega | exact Nat.le_of_ble_eq_true rfl | (show _ ≤ 601471; omega) | (show _ ≤ 7291690; omega)) ?_
    refine g_icmp_eq hC dL_law_874 1649 rfl 877 rfl (fun c_2 => ?_) (fun c_2 => ?_)
    · exact ih M ⟨ta, of, sv, ms, tx, lc, av, asp, ak, aik, atx, am, mc, aa, pc_, ato, t0, t1, f, txf, sp, kf, ik, gm, ga, gt, A, ⟨⟨by omega, by omega⟩, ⟨by omega, by omega⟩, ⟨by omega, by omega⟩, by omega, by omega, by omega, by omega, by omega, by omega⟩, htx, hM_0, hM_1, hM_2, hM_3, hM_4, hM_5, hM_6, hM_7, hM_8, hM_9, hM_10, hM_11, busR.mono hB (by omega), (hS0.mono (by omega)), (hS1.mono (by omega)), hMs⟩
    · exact absurd c_2 (by decide)
set_option maxHeartbeats 4000000 in
theorem lwc_21 {nm : String} {p : Program} {l : Launch} {e : Env} {s : State} {m : MethodId} {args : Array Value} {below : List Frame} {meth : Method} {c : Code} {G : gG} {Q : State → Prop} {M : gM} {b L x m0 q j : Nat} {xs : Nat → Int32} (hC : gC p s m args meth c G 4 cL_law "ArbitratedBusLaw" nm (some .boolean)) (hX : va_X b L xs s s.heap) (hbz : b < s.heap.size ∧ b < gz G) (hL : L ≤ 384) (hj : 6 * j + 6 ≤ L) (hqj : q ≤ 1100 * j) (hI : LW M G x m0 q) (ih : ∀ M', LW M' G x m0 (q + 1100) → gJ p l e room_1 s m args below meth c G 4 Q (9200 * (j + 1) + 300) (70000 * (j + 1) + 20000) M' 1649 [(0, .ref b), (1, .ref x), (2, .ref m0), (3, .int (nI (6 * j)))] []) : gJ p l e room_1 s m args below meth c G 4 Q (9200 * j + 300) (70000 * j + 20000) M 879 [(0, .ref b), (1, .ref x), (2, .ref m0), (3, .int (nI (6 * j)))] [] := by
  obtain ⟨ta, of, sv, ms, tx, lc, av, asp, ak, aik, atx, am, mc, aa, pc_, ato, t0, t1, f, txf, sp, kf, ik, gm, ga, gt, A, ⟨⟨hta2, hta6⟩, ⟨ht02, ht06⟩, ⟨ht12, ht16⟩, ha0, ha1, h01, hlc, hpc, hmc⟩, htx, hM_0, hM_1, hM_2, hM_3, hM_4, hM_5, hM_6, hM_7, hM_8, hM_9, hM_10, hM_11, hB, hS0, hS1, hMs⟩ := hI
  have hokA := busR.ok hB (by omega)
  by_cases hx : (0 ≤ xs (6 * j + 1) ∧ xs (6 * j + 1) ≤ 3)
  · obtain ⟨k, hk, ek⟩ := nk_of hx
    refine g_aload_n hC dL_law_879 1 rfl gRef_r 880 rfl ?_
    refine g_aload_n hC dL_law_880 0 rfl gRef_r 881 rfl ?_
    refine g_iload_n hC dL_law_881 3 rfl 882 rfl ?_
    refine g_iconst hC dL_law_882 ki_1 883 rfl ?_
    refine g_iadd hC dL_law_883 884 rfl ?_
    refine g_topi (y := nI (6 * j + 1)) (nI_a (a := (6 * j)) (b := 1) (c := (6 * j + 1)) (by omega)) ?_
    refine g_scr hC hX hbz (i := 6 * j + 1) (by omega) hL dL_law_884 885 rfl ?_
    refine g_topi (y := nI k) ek ?_
    refine g_calliP (g_V (As := [.int (nI k)]) (rest := []) hC mvX0_overruns q2368 (gOf.of hC.K cI0 hM_0) (met_X_overruns l G M x sv ms tx (nI lc) ta of f q k ⟨by omega, by omega⟩ hk hM_0 hB) ⟨rfl, rfl⟩ ⟨(Nat.le_of_ble_eq_true rfl), (Nat.le_of_ble_eq_true rfl)⟩ rfl (Nat.le_of_ble_eq_true rfl) dL_law_885 rfl ⟨(by first | omega | exact Nat.le_of_ble_eq_true rfl | (show _ ≤ 601471; omega) | (show _ ≤ 7291690; omega)), (by first | omega | exact Nat.le_of_ble_eq_true rfl | (show _ ≤ 601471; omega) | (show _ ≤ 7291690; omega))⟩) 888 rfl (70000 * j + 20000) (by first | omega | exact Nat.le_of_ble_eq_true rfl | (show _ ≤ 601471; omega) | (show _ ≤ 7291690; omega)) ?_
    refine g_aload_n hC dL_law_888 2 rfl gRef_r 889 rfl ?_
    refine g_aload_n hC dL_law_889 0 rfl gRef_r 890 rfl ?_
    refine g_iload_n hC dL_law_890 3 rfl 891 rfl ?_
    refine g_iconst hC dL_law_891 ki_1 892 rfl ?_
    refine g_iadd hC dL_law_892 893 rfl ?_
    refine g_topi (y := nI (6 * j + 1)) (nI_a (a := (6 * j)) (b := 1) (c := (6 * j + 1)) (by omega)) ?_
    refine g_scr hC hX hbz (i := 6 * j + 1) (by omega) hL dL_law_893 894 rfl ?_
    refine g_topi (y := nI k) ek ?_
    refine g_calliP (g_V (As := [.int (nI k)]) (rest := [.int (f (256 * k + 15))]) hC mvX8_overruns q3251 (gOf.of hC.K cI7 hM_3) (met_T_overruns l G M m0 av asp ak aik atx (nI lc) am (nI mc) aa (nI pc_) ato f k hk hM_3 hM_4) ⟨rfl, rfl⟩ ⟨(Nat.le_of_ble_eq_true rfl), (Nat.le_of_ble_eq_true rfl)⟩ rfl (Nat.le_of_ble_eq_true rfl) dL_law_894 rfl ⟨(by first | omega | exact Nat.le_of_ble_eq_true rfl | (show _ ≤ 601471; omega) | (show _ ≤ 7291690; omega)), (by first | omega | exact Nat.le_of_ble_eq_true rfl | (show _ ≤ 601471; omega) | (show _ ≤ 7291690; omega))⟩) 897 rfl (70000 * j + 20000) (by first | omega | exact Nat.le_of_ble_eq_true rfl | (show _ ≤ 601471; omega) | (show _ ≤ 7291690; omega)) ?_
    refine g_icmp_eq hC dL_law_897 1649 rfl 900 rfl (fun c_1 => ?_) (fun c_1 => ?_)
    · exact ih M ⟨ta, of, sv, ms, tx, lc, av, asp, ak, aik, atx, am, mc, aa, pc_, ato, t0, t1, f, txf, sp, kf, ik, gm, ga, gt, A, ⟨⟨by omega, by omega⟩, ⟨by omega, by omega⟩, ⟨by omega, by omega⟩, by omega, by omega, by omega, by omega, by omega, by omega⟩, htx, hM_0, hM_1, hM_2, hM_3, hM_4, hM_5, hM_6, hM_7, hM_8, hM_9, hM_10, hM_11, busR.mono hB (by omega), (hS0.mono (by omega)), (hS1.mono (by omega)), hMs⟩
    · exact absurd rfl c_1
  · refine g_aload_n hC dL_law_879 1 rfl gRef_r 880 rfl ?_
    refine g_aload_n hC dL_law_880 0 rfl gRef_r 881 rfl ?_
    refine g_iload_n hC dL_law_881 3 rfl 882 rfl ?_
    refine g_iconst hC dL_law_882 ki_1 883 rfl ?_
    refine g_iadd hC dL_law_883 884 rfl ?_
    refine g_topi (y := nI (6 * j + 1)) (nI_a (a := (6 * j)) (b := 1) (c := (6 * j + 1)) (by omega)) ?_
    refine g_scr hC hX hbz (i := 6 * j + 1) (by omega) hL dL_law_884 885 rfl ?_
    refine g_calliP (g_V (As := [.int (xs (6 * j + 1))]) (rest := []) hC mvX0_overruns q2368 (gOf.of hC.K cI0 hM_0) (met_X_overruns_n l G M x sv ms tx (nI lc) ta of f q (xs (6 * j + 1)) hx hM_0) ⟨rfl, rfl⟩ ⟨(Nat.le_of_ble_eq_true rfl), (Nat.le_of_ble_eq_true rfl)⟩ rfl (Nat.le_of_ble_eq_true rfl) dL_law_885 rfl ⟨(by first | omega | exact Nat.le_of_ble_eq_true rfl | (show _ ≤ 601471; omega) | (show _ ≤ 7291690; omega)), (by first | omega | exact Nat.le_of_ble_eq_true rfl | (show _ ≤ 601471; omega) | (show _ ≤ 7291690; omega))⟩) 888 rfl (70000 * j + 20000) (by first | omega | exact Nat.le_of_ble_eq_true rfl | (show _ ≤ 601471; omega) | (show _ ≤ 7291690; omega)) ?_
    refine g_aload_n hC dL_law_888 2 rfl gRef_r 889 rfl ?_
    refine g_aload_n hC dL_law_889 0 rfl gRef_r 890 rfl ?_
    refine g_iload_n hC dL_law_890 3 rfl 891 rfl ?_
    refine g_iconst hC dL_law_891 ki_1 892 rfl ?_
    refine g_iadd hC dL_law_892 893 rfl ?_
    refine g_topi (y := nI (6 * j + 1)) (nI_a (a := (6 * j)) (b := 1) (c := (6 * j + 1)) (by omega)) ?_
    refine g_scr hC hX hbz (i := 6 * j + 1) (by omega) hL dL_law_893 894 rfl ?_
    refine g_calliP (g_V (As := [.int (xs (6 * j + 1))]) (rest := [.int (-1)]) hC mvX8_overruns q3251 (gOf.of hC.K cI7 hM_3) (met_T_overruns_n l G M m0 av asp ak aik atx (nI lc) am (nI mc) aa (nI pc_) ato f (xs (6 * j + 1)) hx hM_3 hM_4) ⟨rfl, rfl⟩ ⟨(Nat.le_of_ble_eq_true rfl), (Nat.le_of_ble_eq_true rfl)⟩ rfl (Nat.le_of_ble_eq_true rfl) dL_law_894 rfl ⟨(by first | omega | exact Nat.le_of_ble_eq_true rfl | (show _ ≤ 601471; omega) | (show _ ≤ 7291690; omega)), (by first | omega | exact Nat.le_of_ble_eq_true rfl | (show _ ≤ 601471; omega) | (show _ ≤ 7291690; omega))⟩) 897 rfl (70000 * j + 20000) (by first | omega | exact Nat.le_of_ble_eq_true rfl | (show _ ≤ 601471; omega) | (show _ ≤ 7291690; omega)) ?_
    refine g_icmp_eq hC dL_law_897 1649 rfl 900 rfl (fun c_2 => ?_) (fun c_2 => ?_)
    · exact ih M ⟨ta, of, sv, ms, tx, lc, av, asp, ak, aik, atx, am, mc, aa, pc_, ato, t0, t1, f, txf, sp, kf, ik, gm, ga, gt, A, ⟨⟨by omega, by omega⟩, ⟨by omega, by omega⟩, ⟨by omega, by omega⟩, by omega, by omega, by omega, by omega, by omega, by omega⟩, htx, hM_0, hM_1, hM_2, hM_3, hM_4, hM_5, hM_6, hM_7, hM_8, hM_9, hM_10, hM_11, busR.mono hB (by omega), (hS0.mono (by omega)), (hS1.mono (by omega)), hMs⟩
    · exact absurd c_2 (by decide)
set_option maxHeartbeats 4000000 in
theorem lwc_22 {nm : String} {p : Program} {l : Launch} {e : Env} {s : State} {m : MethodId} {args : Array Value} {below : List Frame} {meth : Method} {c : Code} {G : gG} {Q : State → Prop} {M : gM} {b L x m0 q j : Nat} {xs : Nat → Int32} (hC : gC p s m args meth c G 4 cL_law "ArbitratedBusLaw" nm (some .boolean)) (hX : va_X b L xs s s.heap) (hbz : b < s.heap.size ∧ b < gz G) (hL : L ≤ 384) (hj : 6 * j + 6 ≤ L) (hqj : q ≤ 1100 * j) (hI : LW M G x m0 q) (ih : ∀ M', LW M' G x m0 (q + 1100) → gJ p l e room_1 s m args below meth c G 4 Q (9200 * (j + 1) + 300) (70000 * (j + 1) + 20000) M' 1649 [(0, .ref b), (1, .ref x), (2, .ref m0), (3, .int (nI (6 * j)))] []) : gJ p l e room_1 s m args below meth c G 4 Q (9200 * j + 300) (70000 * j + 20000) M 902 [(0, .ref b), (1, .ref x), (2, .ref m0), (3, .int (nI (6 * j)))] [] := by
  obtain ⟨ta, of, sv, ms, tx, lc, av, asp, ak, aik, atx, am, mc, aa, pc_, ato, t0, t1, f, txf, sp, kf, ik, gm, ga, gt, A, ⟨⟨hta2, hta6⟩, ⟨ht02, ht06⟩, ⟨ht12, ht16⟩, ha0, ha1, h01, hlc, hpc, hmc⟩, htx, hM_0, hM_1, hM_2, hM_3, hM_4, hM_5, hM_6, hM_7, hM_8, hM_9, hM_10, hM_11, hB, hS0, hS1, hMs⟩ := hI
  have hokA := busR.ok hB (by omega)
  by_cases hx : (0 ≤ xs (6 * j + 1) ∧ xs (6 * j + 1) ≤ 3)
  · obtain ⟨k, hk, ek⟩ := nk_of hx
    refine g_aload_n hC dL_law_902 1 rfl gRef_r 903 rfl ?_
    refine g_aload_n hC dL_law_903 0 rfl gRef_r 904 rfl ?_
    refine g_iload_n hC dL_law_904 3 rfl 905 rfl ?_
    refine g_iconst hC dL_law_905 ki_1 906 rfl ?_
    refine g_iadd hC dL_law_906 907 rfl ?_
    refine g_topi (y := nI (6 * j + 1)) (nI_a (a := (6 * j)) (b := 1) (c := (6 * j + 1)) (by omega)) ?_
    refine g_scr hC hX hbz (i := 6 * j + 1) (by omega) hL dL_law_907 908 rfl ?_
    refine g_topi (y := nI k) ek ?_
    refine g_calliP (g_V (As := [.int (nI k)]) (rest := []) hC mvX0_waiting q2372 (gOf.of hC.K cI0 hM_0) (met_X_waiting l G M x sv ms tx (nI lc) ta of f q k ⟨by omega, by omega⟩ hk hM_0 hB) ⟨rfl, rfl⟩ ⟨(Nat.le_of_ble_eq_true rfl), (Nat.le_of_ble_eq_true rfl)⟩ rfl (Nat.le_of_ble_eq_true rfl) dL_law_908 rfl ⟨(by first | omega | exact Nat.le_of_ble_eq_true rfl | (show _ ≤ 601471; omega) | (show _ ≤ 7291690; omega)), (by first | omega | exact Nat.le_of_ble_eq_true rfl | (show _ ≤ 601471; omega) | (show _ ≤ 7291690; omega))⟩) 911 rfl (70000 * j + 20000) (by first | omega | exact Nat.le_of_ble_eq_true rfl | (show _ ≤ 601471; omega) | (show _ ≤ 7291690; omega)) ?_
    refine g_aload_n hC dL_law_911 2 rfl gRef_r 912 rfl ?_
    refine g_aload_n hC dL_law_912 0 rfl gRef_r 913 rfl ?_
    refine g_iload_n hC dL_law_913 3 rfl 914 rfl ?_
    refine g_iconst hC dL_law_914 ki_1 915 rfl ?_
    refine g_iadd hC dL_law_915 916 rfl ?_
    refine g_topi (y := nI (6 * j + 1)) (nI_a (a := (6 * j)) (b := 1) (c := (6 * j + 1)) (by omega)) ?_
    refine g_scr hC hX hbz (i := 6 * j + 1) (by omega) hL dL_law_916 917 rfl ?_
    refine g_topi (y := nI k) ek ?_
    refine g_calliP (g_V (As := [.int (nI k)]) (rest := [.int (f (256 * k + 23))]) hC mvX8_waiting q3255 (gOf.of hC.K cI7 hM_3) (met_T_waiting l G M m0 av asp ak aik atx (nI lc) am (nI mc) aa (nI pc_) ato f k hk hM_3 hM_4) ⟨rfl, rfl⟩ ⟨(Nat.le_of_ble_eq_true rfl), (Nat.le_of_ble_eq_true rfl)⟩ rfl (Nat.le_of_ble_eq_true rfl) dL_law_917 rfl ⟨(by first | omega | exact Nat.le_of_ble_eq_true rfl | (show _ ≤ 601471; omega) | (show _ ≤ 7291690; omega)), (by first | omega | exact Nat.le_of_ble_eq_true rfl | (show _ ≤ 601471; omega) | (show _ ≤ 7291690; omega))⟩) 920 rfl (70000 * j + 20000) (by first | omega | exact Nat.le_of_ble_eq_true rfl | (show _ ≤ 601471; omega) | (show _ ≤ 7291690; omega)) ?_
    refine g_icmp_eq hC dL_law_920 1649 rfl 923 rfl (fun c_1 => ?_) (fun c_1 => ?_)
    · exact ih M ⟨ta, of, sv, ms, tx, lc, av, asp, ak, aik, atx, am, mc, aa, pc_, ato, t0, t1, f, txf, sp, kf, ik, gm, ga, gt, A, ⟨⟨by omega, by omega⟩, ⟨by omega, by omega⟩, ⟨by omega, by omega⟩, by omega, by omega, by omega, by omega, by omega, by omega⟩, htx, hM_0, hM_1, hM_2, hM_3, hM_4, hM_5, hM_6, hM_7, hM_8, hM_9, hM_10, hM_11, busR.mono hB (by omega), (hS0.mono (by omega)), (hS1.mono (by omega)), hMs⟩
    · exact absurd rfl c_1
  · refine g_aload_n hC dL_law_902 1 rfl gRef_r 903 rfl ?_
    refine g_aload_n hC dL_law_903 0 rfl gRef_r 904 rfl ?_
    refine g_iload_n hC dL_law_904 3 rfl 905 rfl ?_
    refine g_iconst hC dL_law_905 ki_1 906 rfl ?_
    refine g_iadd hC dL_law_906 907 rfl ?_
    refine g_topi (y := nI (6 * j + 1)) (nI_a (a := (6 * j)) (b := 1) (c := (6 * j + 1)) (by omega)) ?_
    refine g_scr hC hX hbz (i := 6 * j + 1) (by omega) hL dL_law_907 908 rfl ?_
    refine g_calliP (g_V (As := [.int (xs (6 * j + 1))]) (rest := []) hC mvX0_waiting q2372 (gOf.of hC.K cI0 hM_0) (met_X_waiting_n l G M x sv ms tx (nI lc) ta of f q (xs (6 * j + 1)) hx hM_0) ⟨rfl, rfl⟩ ⟨(Nat.le_of_ble_eq_true rfl), (Nat.le_of_ble_eq_true rfl)⟩ rfl (Nat.le_of_ble_eq_true rfl) dL_law_908 rfl ⟨(by first | omega | exact Nat.le_of_ble_eq_true rfl | (show _ ≤ 601471; omega) | (show _ ≤ 7291690; omega)), (by first | omega | exact Nat.le_of_ble_eq_true rfl | (show _ ≤ 601471; omega) | (show _ ≤ 7291690; omega))⟩) 911 rfl (70000 * j + 20000) (by first | omega | exact Nat.le_of_ble_eq_true rfl | (show _ ≤ 601471; omega) | (show _ ≤ 7291690; omega)) ?_
    refine g_aload_n hC dL_law_911 2 rfl gRef_r 912 rfl ?_
    refine g_aload_n hC dL_law_912 0 rfl gRef_r 913 rfl ?_
    refine g_iload_n hC dL_law_913 3 rfl 914 rfl ?_
    refine g_iconst hC dL_law_914 ki_1 915 rfl ?_
    refine g_iadd hC dL_law_915 916 rfl ?_
    refine g_topi (y := nI (6 * j + 1)) (nI_a (a := (6 * j)) (b := 1) (c := (6 * j + 1)) (by omega)) ?_
    refine g_scr hC hX hbz (i := 6 * j + 1) (by omega) hL dL_law_916 917 rfl ?_
    refine g_calliP (g_V (As := [.int (xs (6 * j + 1))]) (rest := [.int (-1)]) hC mvX8_waiting q3255 (gOf.of hC.K cI7 hM_3) (met_T_waiting_n l G M m0 av asp ak aik atx (nI lc) am (nI mc) aa (nI pc_) ato f (xs (6 * j + 1)) hx hM_3 hM_4) ⟨rfl, rfl⟩ ⟨(Nat.le_of_ble_eq_true rfl), (Nat.le_of_ble_eq_true rfl)⟩ rfl (Nat.le_of_ble_eq_true rfl) dL_law_917 rfl ⟨(by first | omega | exact Nat.le_of_ble_eq_true rfl | (show _ ≤ 601471; omega) | (show _ ≤ 7291690; omega)), (by first | omega | exact Nat.le_of_ble_eq_true rfl | (show _ ≤ 601471; omega) | (show _ ≤ 7291690; omega))⟩) 920 rfl (70000 * j + 20000) (by first | omega | exact Nat.le_of_ble_eq_true rfl | (show _ ≤ 601471; omega) | (show _ ≤ 7291690; omega)) ?_
    refine g_icmp_eq hC dL_law_920 1649 rfl 923 rfl (fun c_2 => ?_) (fun c_2 => ?_)
    · exact ih M ⟨ta, of, sv, ms, tx, lc, av, asp, ak, aik, atx, am, mc, aa, pc_, ato, t0, t1, f, txf, sp, kf, ik, gm, ga, gt, A, ⟨⟨by omega, by omega⟩, ⟨by omega, by omega⟩, ⟨by omega, by omega⟩, by omega, by omega, by omega, by omega, by omega, by omega⟩, htx, hM_0, hM_1, hM_2, hM_3, hM_4, hM_5, hM_6, hM_7, hM_8, hM_9, hM_10, hM_11, busR.mono hB (by omega), (hS0.mono (by omega)), (hS1.mono (by omega)), hMs⟩
    · exact absurd c_2 (by decide)
set_option maxHeartbeats 4000000 in
theorem lwc_23 {nm : String} {p : Program} {l : Launch} {e : Env} {s : State} {m : MethodId} {args : Array Value} {below : List Frame} {meth : Method} {c : Code} {G : gG} {Q : State → Prop} {M : gM} {b L x m0 q j : Nat} {xs : Nat → Int32} (hC : gC p s m args meth c G 4 cL_law "ArbitratedBusLaw" nm (some .boolean)) (hX : va_X b L xs s s.heap) (hbz : b < s.heap.size ∧ b < gz G) (hL : L ≤ 384) (hj : 6 * j + 6 ≤ L) (hqj : q ≤ 1100 * j) (hI : LW M G x m0 q) (ih : ∀ M', LW M' G x m0 (q + 1100) → gJ p l e room_1 s m args below meth c G 4 Q (9200 * (j + 1) + 300) (70000 * (j + 1) + 20000) M' 1649 [(0, .ref b), (1, .ref x), (2, .ref m0), (3, .int (nI (6 * j)))] []) : gJ p l e room_1 s m args below meth c G 4 Q (9200 * j + 300) (70000 * j + 20000) M 925 [(0, .ref b), (1, .ref x), (2, .ref m0), (3, .int (nI (6 * j)))] [] := by
  obtain ⟨ta, of, sv, ms, tx, lc, av, asp, ak, aik, atx, am, mc, aa, pc_, ato, t0, t1, f, txf, sp, kf, ik, gm, ga, gt, A, ⟨⟨hta2, hta6⟩, ⟨ht02, ht06⟩, ⟨ht12, ht16⟩, ha0, ha1, h01, hlc, hpc, hmc⟩, htx, hM_0, hM_1, hM_2, hM_3, hM_4, hM_5, hM_6, hM_7, hM_8, hM_9, hM_10, hM_11, hB, hS0, hS1, hMs⟩ := hI
  have hokA := busR.ok hB (by omega)
  by_cases hx : (0 ≤ xs (6 * j + 1) ∧ xs (6 * j + 1) ≤ 3)
  · obtain ⟨k, hk, ek⟩ := nk_of hx
    by_cases hin : (0 ≤ xs (6 * j + 2) ∧ xs (6 * j + 2) ≤ f (256 * k + 23) - 1)
    · obtain ⟨i, hi, ei⟩ := idx_n (n := 4) hin (okAll.nw hokA hk).1 (okAll.nw hokA hk).2
      rw [ei] at hin
      refine g_aload_n hC dL_law_925 1 rfl gRef_r 926 rfl ?_
      refine g_aload_n hC dL_law_926 0 rfl gRef_r 927 rfl ?_
      refine g_iload_n hC dL_law_927 3 rfl 928 rfl ?_
      refine g_iconst hC dL_law_928 ki_1 929 rfl ?_
      refine g_iadd hC dL_law_929 930 rfl ?_
      refine g_topi (y := nI (6 * j + 1)) (nI_a (a := (6 * j)) (b := 1) (c := (6 * j + 1)) (by omega)) ?_
      refine g_scr hC hX hbz (i := 6 * j + 1) (by omega) hL dL_law_930 931 rfl ?_
      refine g_topi (y := nI k) ek ?_
      refine g_aload_n hC dL_law_931 0 rfl gRef_r 932 rfl ?_
      refine g_iload_n hC dL_law_932 3 rfl 933 rfl ?_
      refine g_iconst hC dL_law_933 ki_2 934 rfl ?_
      refine g_iadd hC dL_law_934 935 rfl ?_
      refine g_topi (y := nI (6 * j + 2)) (nI_a (a := (6 * j)) (b := 2) (c := (6 * j + 2)) (by omega)) ?_
      refine g_scr hC hX hbz (i := 6 * j + 2) (by omega) hL dL_law_935 936 rfl ?_
      refine g_topi (y := nI i) ei ?_
      refine g_calli (g_V (As := [.int (nI k), .int (nI i)]) (rest := []) hC mvX0_waitingFrame q2376 (gOf.of hC.K cI0 hM_0) (met_X_waitingFrame l G M x sv ms tx (nI lc) ta of f q k i ⟨by omega, by omega⟩ hk hin (by omega) hM_0 hB) ⟨rfl, rfl⟩ ⟨(Nat.le_of_ble_eq_true rfl), (Nat.le_of_ble_eq_true rfl)⟩ rfl (Nat.le_of_ble_eq_true rfl) dL_law_936 rfl ⟨(by first | omega | exact Nat.le_of_ble_eq_true rfl | (show _ ≤ 601471; omega) | (show _ ≤ 7291690; omega)), (by first | omega | exact Nat.le_of_ble_eq_true rfl | (show _ ≤ 601471; omega) | (show _ ≤ 7291690; omega))⟩) (9200 * j + 300 + 3) (by first | omega | exact Nat.le_of_ble_eq_true rfl | (show _ ≤ 601471; omega) | (show _ ≤ 7291690; omega)) (70000 * j + 20000 + 14) (by first | omega | exact Nat.le_of_ble_eq_true rfl | (show _ ≤ 601471; omega) | (show _ ≤ 7291690; omega)) 939 rfl (fun r4 M1 k2 hp3 => ?_)
      obtain ⟨rfl, hpd5, hF6, hk7⟩ := hp3
      refine g_aload_n hC dL_law_939 2 rfl gRef_r 940 rfl ?_
      refine g_aload_n hC dL_law_940 0 rfl gRef_r 941 rfl ?_
      refine g_iload_n hC dL_law_941 3 rfl 942 rfl ?_
      refine g_iconst hC dL_law_942 ki_1 943 rfl ?_
      refine g_iadd hC dL_law_943 944 rfl ?_
      refine g_topi (y := nI (6 * j + 1)) (nI_a (a := (6 * j)) (b := 1) (c := (6 * j + 1)) (by omega)) ?_
      refine g_scr hC hX hbz (i := 6 * j + 1) (by omega) hL dL_law_944 945 rfl ?_
      refine g_topi (y := nI k) ek ?_
      refine g_aload_n hC dL_law_945 0 rfl gRef_r 946 rfl ?_
      refine g_iload_n hC dL_law_946 3 rfl 947 rfl ?_
      refine g_iconst hC dL_law_947 ki_2 948 rfl ?_
      refine g_iadd hC dL_law_948 949 rfl ?_
      refine g_topi (y := nI (6 * j + 2)) (nI_a (a := (6 * j)) (b := 2) (c := (6 * j + 2)) (by omega)) ?_
      refine g_scr hC hX hbz (i := 6 * j + 2) (by omega) hL dL_law_949 950 rfl ?_
      refine g_topi (y := nI i) ei ?_
      refine g_calliP (g_V (As := [.int (nI k), .int (nI i)]) (rest := [.int (T_key f k i)]) hC mvX8_waitingFrame q3259 (gOf.of hC.K cI7 (hF6 _ _ _ hM_3 (show ¬ (tgR 9 0 8) (1, 0) by (try simp only [ndT, tgE, gT, tgR, ndT9, ndW, tg0, Prod.mk.injEq, true_and, and_true, cpyT, msT]); first | done | omega | (simp; done) | simp_all))) (met_T_waitingFrame l G M1 m0 av asp ak aik atx (nI lc) am (nI mc) aa (nI pc_) ato f k i hk hin (by omega) (hF6 _ _ _ hM_3 (show ¬ (tgR 9 0 8) (1, 0) by (try simp only [ndT, tgE, gT, tgR, ndT9, ndW, tg0, Prod.mk.injEq, true_and, and_true, cpyT, msT]); first | done | omega | (simp; done) | simp_all)) (hF6 _ _ _ hM_4 (show ¬ (tgR 9 0 8) (1, 1) by (try simp only [ndT, tgE, gT, tgR, ndT9, ndW, tg0, Prod.mk.injEq, true_and, and_true, cpyT, msT]); first | done | omega | (simp; done) | simp_all))) ⟨rfl, rfl⟩ ⟨(Nat.le_of_ble_eq_true rfl), (Nat.le_of_ble_eq_true rfl)⟩ rfl (Nat.le_of_ble_eq_true rfl) dL_law_950 rfl ⟨(by first | omega | exact Nat.le_of_ble_eq_true rfl | (show _ ≤ 601471; omega) | (show _ ≤ 7291690; omega)), (by first | omega | exact Nat.le_of_ble_eq_true rfl | (show _ ≤ 601471; omega) | (show _ ≤ 7291690; omega))⟩) 953 rfl (70000 * j + 20000 + 14) (by first | omega | exact Nat.le_of_ble_eq_true rfl | (show _ ≤ 601471; omega) | (show _ ≤ 7291690; omega)) ?_
      refine g_icmp_eq hC dL_law_953 1649 rfl 956 rfl (fun c_8 => ?_) (fun c_8 => ?_)
      · exact ih M1 ⟨ta, of, sv, ms, tx, lc, av, asp, ak, aik, atx, am, mc, aa, pc_, ato, t0, t1, f, txf, sp, kf, ik, gm, ga, gt, A, ⟨⟨by omega, by omega⟩, ⟨by omega, by omega⟩, ⟨by omega, by omega⟩, by omega, by omega, by omega, by omega, by omega, by omega⟩, htx, (hF6 _ _ _ hM_0 (show ¬ (tgR 9 0 8) (8, 0) by (try simp only [ndT, tgE, gT, tgR, ndT9, ndW, tg0, Prod.mk.injEq, true_and, and_true, cpyT, msT]); first | done | omega | (simp; done) | simp_all)), (hF6 _ _ _ hM_1 (show ¬ (tgR 9 0 8) (8, 1) by (try simp only [ndT, tgE, gT, tgR, ndT9, ndW, tg0, Prod.mk.injEq, true_and, and_true, cpyT, msT]); first | done | omega | (simp; done) | simp_all)), (hF6 _ _ _ hM_2 (show ¬ (tgR 9 0 8) (8, 5) by (try simp only [ndT, tgE, gT, tgR, ndT9, ndW, tg0, Prod.mk.injEq, true_and, and_true, cpyT, msT]); first | done | omega | (simp; done) | simp_all)), (hF6 _ _ _ hM_3 (show ¬ (tgR 9 0 8) (1, 0) by (try simp only [ndT, tgE, gT, tgR, ndT9, ndW, tg0, Prod.mk.injEq, true_and, and_true, cpyT, msT]); first | done | omega | (simp; done) | simp_all)), (hF6 _ _ _ hM_4 (show ¬ (tgR 9 0 8) (1, 1) by (try simp only [ndT, tgE, gT, tgR, ndT9, ndW, tg0, Prod.mk.injEq, true_and, and_true, cpyT, msT]); first | done | omega | (simp; done) | simp_all)), (hF6 _ _ _ hM_5 (show ¬ (tgR 9 0 8) (1, 2) by (try simp only [ndT, tgE, gT, tgR, ndT9, ndW, tg0, Prod.mk.injEq, true_and, and_true, cpyT, msT]); first | done | omega | (simp; done) | simp_all)), (hF6 _ _ _ hM_6 (show ¬ (tgR 9 0 8) (1, 3) by (try simp only [ndT, tgE, gT, tgR, ndT9, ndW, tg0, Prod.mk.injEq, true_and, and_true, cpyT, msT]); first | done | omega | (simp; done) | simp_all)), (hF6 _ _ _ hM_7 (show ¬ (tgR 9 0 8) (1, 4) by (try simp only [ndT, tgE, gT, tgR, ndT9, ndW, tg0, Prod.mk.injEq, true_and, and_true, cpyT, msT]); first | done | omega | (simp; done) | simp_all)), (hF6 _ _ _ hM_8 (show ¬ (tgR 9 0 8) (1, 5) by (try simp only [ndT, tgE, gT, tgR, ndT9, ndW, tg0, Prod.mk.injEq, true_and, and_true, cpyT, msT]); first | done | omega | (simp; done) | simp_all)), (hF6 _ _ _ hM_9 (show ¬ (tgR 9 0 8) (1, 6) by (try simp only [ndT, tgE, gT, tgR, ndT9, ndW, tg0, Prod.mk.injEq, true_and, and_true, cpyT, msT]); first | done | omega | (simp; done) | simp_all)), (hF6 _ _ _ hM_10 (show ¬ (tgR 9 0 8) (1, 7) by (try simp only [ndT, tgE, gT, tgR, ndT9, ndW, tg0, Prod.mk.injEq, true_and, and_true, cpyT, msT]); first | done | omega | (simp; done) | simp_all)), (hF6 _ _ _ hM_11 (show ¬ (tgR 9 0 8) (1, 8) by (try simp only [ndT, tgE, gT, tgR, ndT9, ndW, tg0, Prod.mk.injEq, true_and, and_true, cpyT, msT]); first | done | omega | (simp; done) | simp_all)), busR.mono hpd5 (by omega), ((sv1.fr hS0 (gFr.refl.trans (hF6.mono (fun b t h => by obtain ⟨u9, v9⟩ := t; revert h; (try simp only [ndT, tgE, gT, tgR, ndT9, ndW, tg0, Prod.mk.injEq, true_and, and_true, cpyT, msT]); first | done | omega | (simp; done) | (intro h; simp_all; done))))).mono (by omega)), ((sv1.fr hS1 (gFr.refl.trans (hF6.mono (fun b t h => by obtain ⟨u9, v9⟩ := t; revert h; (try simp only [ndT, tgE, gT, tgR, ndT9, ndW, tg0, Prod.mk.injEq, true_and, and_true, cpyT, msT]); first | done | omega | (simp; done) | (intro h; simp_all; done))))).mono (by omega)), (msR.fr hMs (gFr.refl.trans (hF6.mono (fun b t h => by obtain ⟨u9, v9⟩ := t; revert h; (try simp only [ndT, tgE, gT, tgR, ndT9, ndW, tg0, Prod.mk.injEq, true_and, and_true, cpyT, msT]); first | done | omega | (simp; done) | (intro h; simp_all; done)))))⟩
      · exact absurd rfl c_8
    · refine g_aload_n hC dL_law_925 1 rfl gRef_r 926 rfl ?_
      refine g_aload_n hC dL_law_926 0 rfl gRef_r 927 rfl ?_
      refine g_iload_n hC dL_law_927 3 rfl 928 rfl ?_
      refine g_iconst hC dL_law_928 ki_1 929 rfl ?_
      refine g_iadd hC dL_law_929 930 rfl ?_
      refine g_topi (y := nI (6 * j + 1)) (nI_a (a := (6 * j)) (b := 1) (c := (6 * j + 1)) (by omega)) ?_
      refine g_scr hC hX hbz (i := 6 * j + 1) (by omega) hL dL_law_930 931 rfl ?_
      refine g_topi (y := nI k) ek ?_
      refine g_aload_n hC dL_law_931 0 rfl gRef_r 932 rfl ?_
      refine g_iload_n hC dL_law_932 3 rfl 933 rfl ?_
      refine g_iconst hC dL_law_933 ki_2 934 rfl ?_
      refine g_iadd hC dL_law_934 935 rfl ?_
      refine g_topi (y := nI (6 * j + 2)) (nI_a (a := (6 * j)) (b := 2) (c := (6 * j + 2)) (by omega)) ?_
      refine g_scr hC hX hbz (i := 6 * j + 2) (by omega) hL dL_law_935 936 rfl ?_
      refine g_calliP (g_V (As := [.int (nI k), .int (xs (6 * j + 2))]) (rest := []) hC mvX0_waitingFrame q2376 (gOf.of hC.K cI0 hM_0) (met_X_waitingFrame_o l G M x sv ms tx (nI lc) ta of f q k (xs (6 * j + 2)) ⟨by omega, by omega⟩ hk hin hM_0 hB) ⟨rfl, rfl⟩ ⟨(Nat.le_of_ble_eq_true rfl), (Nat.le_of_ble_eq_true rfl)⟩ rfl (Nat.le_of_ble_eq_true rfl) dL_law_936 rfl ⟨(by first | omega | exact Nat.le_of_ble_eq_true rfl | (show _ ≤ 601471; omega) | (show _ ≤ 7291690; omega)), (by first | omega | exact Nat.le_of_ble_eq_true rfl | (show _ ≤ 601471; omega) | (show _ ≤ 7291690; omega))⟩) 939 rfl (70000 * j + 20000) (by first | omega | exact Nat.le_of_ble_eq_true rfl | (show _ ≤ 601471; omega) | (show _ ≤ 7291690; omega)) ?_
      refine g_aload_n hC dL_law_939 2 rfl gRef_r 940 rfl ?_
      refine g_aload_n hC dL_law_940 0 rfl gRef_r 941 rfl ?_
      refine g_iload_n hC dL_law_941 3 rfl 942 rfl ?_
      refine g_iconst hC dL_law_942 ki_1 943 rfl ?_
      refine g_iadd hC dL_law_943 944 rfl ?_
      refine g_topi (y := nI (6 * j + 1)) (nI_a (a := (6 * j)) (b := 1) (c := (6 * j + 1)) (by omega)) ?_
      refine g_scr hC hX hbz (i := 6 * j + 1) (by omega) hL dL_law_944 945 rfl ?_
      refine g_topi (y := nI k) ek ?_
      refine g_aload_n hC dL_law_945 0 rfl gRef_r 946 rfl ?_
      refine g_iload_n hC dL_law_946 3 rfl 947 rfl ?_
      refine g_iconst hC dL_law_947 ki_2 948 rfl ?_
      refine g_iadd hC dL_law_948 949 rfl ?_
      refine g_topi (y := nI (6 * j + 2)) (nI_a (a := (6 * j)) (b := 2) (c := (6 * j + 2)) (by omega)) ?_
      refine g_scr hC hX hbz (i := 6 * j + 2) (by omega) hL dL_law_949 950 rfl ?_
      refine g_calliP (g_V (As := [.int (nI k), .int (xs (6 * j + 2))]) (rest := [.int (-5)]) hC mvX8_waitingFrame q3259 (gOf.of hC.K cI7 hM_3) (met_T_waitingFrame_o l G M m0 av asp ak aik atx (nI lc) am (nI mc) aa (nI pc_) ato f k (xs (6 * j + 2)) hk hin hM_3 hM_4) ⟨rfl, rfl⟩ ⟨(Nat.le_of_ble_eq_true rfl), (Nat.le_of_ble_eq_true rfl)⟩ rfl (Nat.le_of_ble_eq_true rfl) dL_law_950 rfl ⟨(by first | omega | exact Nat.le_of_ble_eq_true rfl | (show _ ≤ 601471; omega) | (show _ ≤ 7291690; omega)), (by first | omega | exact Nat.le_of_ble_eq_true rfl | (show _ ≤ 601471; omega) | (show _ ≤ 7291690; omega))⟩) 953 rfl (70000 * j + 20000) (by first | omega | exact Nat.le_of_ble_eq_true rfl | (show _ ≤ 601471; omega) | (show _ ≤ 7291690; omega)) ?_
      refine g_icmp_eq hC dL_law_953 1649 rfl 956 rfl (fun c_9 => ?_) (fun c_9 => ?_)
      · exact ih M ⟨ta, of, sv, ms, tx, lc, av, asp, ak, aik, atx, am, mc, aa, pc_, ato, t0, t1, f, txf, sp, kf, ik, gm, ga, gt, A, ⟨⟨by omega, by omega⟩, ⟨by omega, by omega⟩, ⟨by omega, by omega⟩, by omega, by omega, by omega, by omega, by omega, by omega⟩, htx, hM_0, hM_1, hM_2, hM_3, hM_4, hM_5, hM_6, hM_7, hM_8, hM_9, hM_10, hM_11, busR.mono hB (by omega), (hS0.mono (by omega)), (hS1.mono (by omega)), hMs⟩
      · exact absurd c_9 (by decide)
  · refine g_aload_n hC dL_law_925 1 rfl gRef_r 926 rfl ?_
    refine g_aload_n hC dL_law_926 0 rfl gRef_r 927 rfl ?_
    refine g_iload_n hC dL_law_927 3 rfl 928 rfl ?_
    refine g_iconst hC dL_law_928 ki_1 929 rfl ?_
    refine g_iadd hC dL_law_929 930 rfl ?_
    refine g_topi (y := nI (6 * j + 1)) (nI_a (a := (6 * j)) (b := 1) (c := (6 * j + 1)) (by omega)) ?_
    refine g_scr hC hX hbz (i := 6 * j + 1) (by omega) hL dL_law_930 931 rfl ?_
    refine g_aload_n hC dL_law_931 0 rfl gRef_r 932 rfl ?_
    refine g_iload_n hC dL_law_932 3 rfl 933 rfl ?_
    refine g_iconst hC dL_law_933 ki_2 934 rfl ?_
    refine g_iadd hC dL_law_934 935 rfl ?_
    refine g_topi (y := nI (6 * j + 2)) (nI_a (a := (6 * j)) (b := 2) (c := (6 * j + 2)) (by omega)) ?_
    refine g_scr hC hX hbz (i := 6 * j + 2) (by omega) hL dL_law_935 936 rfl ?_
    refine g_calliP (g_V (As := [.int (xs (6 * j + 1)), .int (xs (6 * j + 2))]) (rest := []) hC mvX0_waitingFrame q2376 (gOf.of hC.K cI0 hM_0) (met_X_waitingFrame_n l G M x sv ms tx (nI lc) ta of f q (xs (6 * j + 1)) (xs (6 * j + 2)) hx hM_0) ⟨rfl, rfl⟩ ⟨(Nat.le_of_ble_eq_true rfl), (Nat.le_of_ble_eq_true rfl)⟩ rfl (Nat.le_of_ble_eq_true rfl) dL_law_936 rfl ⟨(by first | omega | exact Nat.le_of_ble_eq_true rfl | (show _ ≤ 601471; omega) | (show _ ≤ 7291690; omega)), (by first | omega | exact Nat.le_of_ble_eq_true rfl | (show _ ≤ 601471; omega) | (show _ ≤ 7291690; omega))⟩) 939 rfl (70000 * j + 20000) (by first | omega | exact Nat.le_of_ble_eq_true rfl | (show _ ≤ 601471; omega) | (show _ ≤ 7291690; omega)) ?_
    refine g_aload_n hC dL_law_939 2 rfl gRef_r 940 rfl ?_
    refine g_aload_n hC dL_law_940 0 rfl gRef_r 941 rfl ?_
    refine g_iload_n hC dL_law_941 3 rfl 942 rfl ?_
    refine g_iconst hC dL_law_942 ki_1 943 rfl ?_
    refine g_iadd hC dL_law_943 944 rfl ?_
    refine g_topi (y := nI (6 * j + 1)) (nI_a (a := (6 * j)) (b := 1) (c := (6 * j + 1)) (by omega)) ?_
    refine g_scr hC hX hbz (i := 6 * j + 1) (by omega) hL dL_law_944 945 rfl ?_
    refine g_aload_n hC dL_law_945 0 rfl gRef_r 946 rfl ?_
    refine g_iload_n hC dL_law_946 3 rfl 947 rfl ?_
    refine g_iconst hC dL_law_947 ki_2 948 rfl ?_
    refine g_iadd hC dL_law_948 949 rfl ?_
    refine g_topi (y := nI (6 * j + 2)) (nI_a (a := (6 * j)) (b := 2) (c := (6 * j + 2)) (by omega)) ?_
    refine g_scr hC hX hbz (i := 6 * j + 2) (by omega) hL dL_law_949 950 rfl ?_
    refine g_calliP (g_V (As := [.int (xs (6 * j + 1)), .int (xs (6 * j + 2))]) (rest := [.int (-1)]) hC mvX8_waitingFrame q3259 (gOf.of hC.K cI7 hM_3) (met_T_waitingFrame_n l G M m0 av asp ak aik atx (nI lc) am (nI mc) aa (nI pc_) ato f (xs (6 * j + 1)) (xs (6 * j + 2)) hx hM_3 hM_4) ⟨rfl, rfl⟩ ⟨(Nat.le_of_ble_eq_true rfl), (Nat.le_of_ble_eq_true rfl)⟩ rfl (Nat.le_of_ble_eq_true rfl) dL_law_950 rfl ⟨(by first | omega | exact Nat.le_of_ble_eq_true rfl | (show _ ≤ 601471; omega) | (show _ ≤ 7291690; omega)), (by first | omega | exact Nat.le_of_ble_eq_true rfl | (show _ ≤ 601471; omega) | (show _ ≤ 7291690; omega))⟩) 953 rfl (70000 * j + 20000) (by first | omega | exact Nat.le_of_ble_eq_true rfl | (show _ ≤ 601471; omega) | (show _ ≤ 7291690; omega)) ?_
    refine g_icmp_eq hC dL_law_953 1649 rfl 956 rfl (fun c_10 => ?_) (fun c_10 => ?_)
    · exact ih M ⟨ta, of, sv, ms, tx, lc, av, asp, ak, aik, atx, am, mc, aa, pc_, ato, t0, t1, f, txf, sp, kf, ik, gm, ga, gt, A, ⟨⟨by omega, by omega⟩, ⟨by omega, by omega⟩, ⟨by omega, by omega⟩, by omega, by omega, by omega, by omega, by omega, by omega⟩, htx, hM_0, hM_1, hM_2, hM_3, hM_4, hM_5, hM_6, hM_7, hM_8, hM_9, hM_10, hM_11, busR.mono hB (by omega), (hS0.mono (by omega)), (hS1.mono (by omega)), hMs⟩
    · exact absurd c_10 (by decide)
set_option maxHeartbeats 4000000 in
theorem lwc_24 {nm : String} {p : Program} {l : Launch} {e : Env} {s : State} {m : MethodId} {args : Array Value} {below : List Frame} {meth : Method} {c : Code} {G : gG} {Q : State → Prop} {M : gM} {b L x m0 q j : Nat} {xs : Nat → Int32} (hC : gC p s m args meth c G 4 cL_law "ArbitratedBusLaw" nm (some .boolean)) (hX : va_X b L xs s s.heap) (hbz : b < s.heap.size ∧ b < gz G) (hL : L ≤ 384) (hj : 6 * j + 6 ≤ L) (hqj : q ≤ 1100 * j) (hI : LW M G x m0 q) (ih : ∀ M', LW M' G x m0 (q + 1100) → gJ p l e room_1 s m args below meth c G 4 Q (9200 * (j + 1) + 300) (70000 * (j + 1) + 20000) M' 1649 [(0, .ref b), (1, .ref x), (2, .ref m0), (3, .int (nI (6 * j)))] []) : gJ p l e room_1 s m args below meth c G 4 Q (9200 * j + 300) (70000 * j + 20000) M 958 [(0, .ref b), (1, .ref x), (2, .ref m0), (3, .int (nI (6 * j)))] [] := by
  obtain ⟨ta, of, sv, ms, tx, lc, av, asp, ak, aik, atx, am, mc, aa, pc_, ato, t0, t1, f, txf, sp, kf, ik, gm, ga, gt, A, ⟨⟨hta2, hta6⟩, ⟨ht02, ht06⟩, ⟨ht12, ht16⟩, ha0, ha1, h01, hlc, hpc, hmc⟩, htx, hM_0, hM_1, hM_2, hM_3, hM_4, hM_5, hM_6, hM_7, hM_8, hM_9, hM_10, hM_11, hB, hS0, hS1, hMs⟩ := hI
  have hokA := busR.ok hB (by omega)
  by_cases hx : (0 ≤ xs (6 * j + 1) ∧ xs (6 * j + 1) ≤ 3)
  · obtain ⟨k, hk, ek⟩ := nk_of hx
    refine g_aload_n hC dL_law_958 1 rfl gRef_r 959 rfl ?_
    refine g_aload_n hC dL_law_959 0 rfl gRef_r 960 rfl ?_
    refine g_iload_n hC dL_law_960 3 rfl 961 rfl ?_
    refine g_iconst hC dL_law_961 ki_1 962 rfl ?_
    refine g_iadd hC dL_law_962 963 rfl ?_
    refine g_topi (y := nI (6 * j + 1)) (nI_a (a := (6 * j)) (b := 1) (c := (6 * j + 1)) (by omega)) ?_
    refine g_scr hC hX hbz (i := 6 * j + 1) (by omega) hL dL_law_963 964 rfl ?_
    refine g_topi (y := nI k) ek ?_
    refine g_calliP (g_V (As := [.int (nI k)]) (rest := []) hC mvX0_received q2389 (gOf.of hC.K cI0 hM_0) (met_X_received l G M x sv ms tx (nI lc) ta of f q k ⟨by omega, by omega⟩ hk hM_0 hB) ⟨rfl, rfl⟩ ⟨(Nat.le_of_ble_eq_true rfl), (Nat.le_of_ble_eq_true rfl)⟩ rfl (Nat.le_of_ble_eq_true rfl) dL_law_964 rfl ⟨(by first | omega | exact Nat.le_of_ble_eq_true rfl | (show _ ≤ 601471; omega) | (show _ ≤ 7291690; omega)), (by first | omega | exact Nat.le_of_ble_eq_true rfl | (show _ ≤ 601471; omega) | (show _ ≤ 7291690; omega))⟩) 967 rfl (70000 * j + 20000) (by first | omega | exact Nat.le_of_ble_eq_true rfl | (show _ ≤ 601471; omega) | (show _ ≤ 7291690; omega)) ?_
    refine g_aload_n hC dL_law_967 2 rfl gRef_r 968 rfl ?_
    refine g_aload_n hC dL_law_968 0 rfl gRef_r 969 rfl ?_
    refine g_iload_n hC dL_law_969 3 rfl 970 rfl ?_
    refine g_iconst hC dL_law_970 ki_1 971 rfl ?_
    refine g_iadd hC dL_law_971 972 rfl ?_
    refine g_topi (y := nI (6 * j + 1)) (nI_a (a := (6 * j)) (b := 1) (c := (6 * j + 1)) (by omega)) ?_
    refine g_scr hC hX hbz (i := 6 * j + 1) (by omega) hL dL_law_972 973 rfl ?_
    refine g_topi (y := nI k) ek ?_
    refine g_calliP (g_V (As := [.int (nI k)]) (rest := [.int (f (256 * k + 24))]) hC mvX8_received q3267 (gOf.of hC.K cI7 hM_3) (met_T_received l G M m0 av asp ak aik atx (nI lc) am (nI mc) aa (nI pc_) ato f k hk hM_3 hM_4) ⟨rfl, rfl⟩ ⟨(Nat.le_of_ble_eq_true rfl), (Nat.le_of_ble_eq_true rfl)⟩ rfl (Nat.le_of_ble_eq_true rfl) dL_law_973 rfl ⟨(by first | omega | exact Nat.le_of_ble_eq_true rfl | (show _ ≤ 601471; omega) | (show _ ≤ 7291690; omega)), (by first | omega | exact Nat.le_of_ble_eq_true rfl | (show _ ≤ 601471; omega) | (show _ ≤ 7291690; omega))⟩) 976 rfl (70000 * j + 20000) (by first | omega | exact Nat.le_of_ble_eq_true rfl | (show _ ≤ 601471; omega) | (show _ ≤ 7291690; omega)) ?_
    refine g_icmp_eq hC dL_law_976 1649 rfl 979 rfl (fun c_1 => ?_) (fun c_1 => ?_)
    · exact ih M ⟨ta, of, sv, ms, tx, lc, av, asp, ak, aik, atx, am, mc, aa, pc_, ato, t0, t1, f, txf, sp, kf, ik, gm, ga, gt, A, ⟨⟨by omega, by omega⟩, ⟨by omega, by omega⟩, ⟨by omega, by omega⟩, by omega, by omega, by omega, by omega, by omega, by omega⟩, htx, hM_0, hM_1, hM_2, hM_3, hM_4, hM_5, hM_6, hM_7, hM_8, hM_9, hM_10, hM_11, busR.mono hB (by omega), (hS0.mono (by omega)), (hS1.mono (by omega)), hMs⟩
    · exact absurd rfl c_1
  · refine g_aload_n hC dL_law_958 1 rfl gRef_r 959 rfl ?_
    refine g_aload_n hC dL_law_959 0 rfl gRef_r 960 rfl ?_
    refine g_iload_n hC dL_law_960 3 rfl 961 rfl ?_
    refine g_iconst hC dL_law_961 ki_1 962 rfl ?_
    refine g_iadd hC dL_law_962 963 rfl ?_
    refine g_topi (y := nI (6 * j + 1)) (nI_a (a := (6 * j)) (b := 1) (c := (6 * j + 1)) (by omega)) ?_
    refine g_scr hC hX hbz (i := 6 * j + 1) (by omega) hL dL_law_963 964 rfl ?_
    refine g_calliP (g_V (As := [.int (xs (6 * j + 1))]) (rest := []) hC mvX0_received q2389 (gOf.of hC.K cI0 hM_0) (met_X_received_n l G M x sv ms tx (nI lc) ta of f q (xs (6 * j + 1)) hx hM_0) ⟨rfl, rfl⟩ ⟨(Nat.le_of_ble_eq_true rfl), (Nat.le_of_ble_eq_true rfl)⟩ rfl (Nat.le_of_ble_eq_true rfl) dL_law_964 rfl ⟨(by first | omega | exact Nat.le_of_ble_eq_true rfl | (show _ ≤ 601471; omega) | (show _ ≤ 7291690; omega)), (by first | omega | exact Nat.le_of_ble_eq_true rfl | (show _ ≤ 601471; omega) | (show _ ≤ 7291690; omega))⟩) 967 rfl (70000 * j + 20000) (by first | omega | exact Nat.le_of_ble_eq_true rfl | (show _ ≤ 601471; omega) | (show _ ≤ 7291690; omega)) ?_
    refine g_aload_n hC dL_law_967 2 rfl gRef_r 968 rfl ?_
    refine g_aload_n hC dL_law_968 0 rfl gRef_r 969 rfl ?_
    refine g_iload_n hC dL_law_969 3 rfl 970 rfl ?_
    refine g_iconst hC dL_law_970 ki_1 971 rfl ?_
    refine g_iadd hC dL_law_971 972 rfl ?_
    refine g_topi (y := nI (6 * j + 1)) (nI_a (a := (6 * j)) (b := 1) (c := (6 * j + 1)) (by omega)) ?_
    refine g_scr hC hX hbz (i := 6 * j + 1) (by omega) hL dL_law_972 973 rfl ?_
    refine g_calliP (g_V (As := [.int (xs (6 * j + 1))]) (rest := [.int (-1)]) hC mvX8_received q3267 (gOf.of hC.K cI7 hM_3) (met_T_received_n l G M m0 av asp ak aik atx (nI lc) am (nI mc) aa (nI pc_) ato f (xs (6 * j + 1)) hx hM_3 hM_4) ⟨rfl, rfl⟩ ⟨(Nat.le_of_ble_eq_true rfl), (Nat.le_of_ble_eq_true rfl)⟩ rfl (Nat.le_of_ble_eq_true rfl) dL_law_973 rfl ⟨(by first | omega | exact Nat.le_of_ble_eq_true rfl | (show _ ≤ 601471; omega) | (show _ ≤ 7291690; omega)), (by first | omega | exact Nat.le_of_ble_eq_true rfl | (show _ ≤ 601471; omega) | (show _ ≤ 7291690; omega))⟩) 976 rfl (70000 * j + 20000) (by first | omega | exact Nat.le_of_ble_eq_true rfl | (show _ ≤ 601471; omega) | (show _ ≤ 7291690; omega)) ?_
    refine g_icmp_eq hC dL_law_976 1649 rfl 979 rfl (fun c_2 => ?_) (fun c_2 => ?_)
    · exact ih M ⟨ta, of, sv, ms, tx, lc, av, asp, ak, aik, atx, am, mc, aa, pc_, ato, t0, t1, f, txf, sp, kf, ik, gm, ga, gt, A, ⟨⟨by omega, by omega⟩, ⟨by omega, by omega⟩, ⟨by omega, by omega⟩, by omega, by omega, by omega, by omega, by omega, by omega⟩, htx, hM_0, hM_1, hM_2, hM_3, hM_4, hM_5, hM_6, hM_7, hM_8, hM_9, hM_10, hM_11, busR.mono hB (by omega), (hS0.mono (by omega)), (hS1.mono (by omega)), hMs⟩
    · exact absurd c_2 (by decide)
set_option maxHeartbeats 4000000 in
theorem lwc_25 {nm : String} {p : Program} {l : Launch} {e : Env} {s : State} {m : MethodId} {args : Array Value} {below : List Frame} {meth : Method} {c : Code} {G : gG} {Q : State → Prop} {M : gM} {b L x m0 q j : Nat} {xs : Nat → Int32} (hC : gC p s m args meth c G 4 cL_law "ArbitratedBusLaw" nm (some .boolean)) (hX : va_X b L xs s s.heap) (hbz : b < s.heap.size ∧ b < gz G) (hL : L ≤ 384) (hj : 6 * j + 6 ≤ L) (hqj : q ≤ 1100 * j) (hI : LW M G x m0 q) (ih : ∀ M', LW M' G x m0 (q + 1100) → gJ p l e room_1 s m args below meth c G 4 Q (9200 * (j + 1) + 300) (70000 * (j + 1) + 20000) M' 1649 [(0, .ref b), (1, .ref x), (2, .ref m0), (3, .int (nI (6 * j)))] []) : gJ p l e room_1 s m args below meth c G 4 Q (9200 * j + 300) (70000 * j + 20000) M 981 [(0, .ref b), (1, .ref x), (2, .ref m0), (3, .int (nI (6 * j)))] [] := by
  obtain ⟨ta, of, sv, ms, tx, lc, av, asp, ak, aik, atx, am, mc, aa, pc_, ato, t0, t1, f, txf, sp, kf, ik, gm, ga, gt, A, ⟨⟨hta2, hta6⟩, ⟨ht02, ht06⟩, ⟨ht12, ht16⟩, ha0, ha1, h01, hlc, hpc, hmc⟩, htx, hM_0, hM_1, hM_2, hM_3, hM_4, hM_5, hM_6, hM_7, hM_8, hM_9, hM_10, hM_11, hB, hS0, hS1, hMs⟩ := hI
  have hokA := busR.ok hB (by omega)
  by_cases hx : (0 ≤ xs (6 * j + 1) ∧ xs (6 * j + 1) ≤ 3)
  · obtain ⟨k, hk, ek⟩ := nk_of hx
    by_cases hin : (0 ≤ xs (6 * j + 2) ∧ xs (6 * j + 2) ≤ f (256 * k + 24) - 1)
    · obtain ⟨i, hi, ei⟩ := idx_n (n := 6) hin (okAll.nr hokA hk).1 (okAll.nr hokA hk).2
      rw [ei] at hin
      refine g_aload_n hC dL_law_981 1 rfl gRef_r 982 rfl ?_
      refine g_aload_n hC dL_law_982 0 rfl gRef_r 983 rfl ?_
      refine g_iload_n hC dL_law_983 3 rfl 984 rfl ?_
      refine g_iconst hC dL_law_984 ki_1 985 rfl ?_
      refine g_iadd hC dL_law_985 986 rfl ?_
      refine g_topi (y := nI (6 * j + 1)) (nI_a (a := (6 * j)) (b := 1) (c := (6 * j + 1)) (by omega)) ?_
      refine g_scr hC hX hbz (i := 6 * j + 1) (by omega) hL dL_law_986 987 rfl ?_
      refine g_topi (y := nI k) ek ?_
      refine g_aload_n hC dL_law_987 0 rfl gRef_r 988 rfl ?_
      refine g_iload_n hC dL_law_988 3 rfl 989 rfl ?_
      refine g_iconst hC dL_law_989 ki_2 990 rfl ?_
      refine g_iadd hC dL_law_990 991 rfl ?_
      refine g_topi (y := nI (6 * j + 2)) (nI_a (a := (6 * j)) (b := 2) (c := (6 * j + 2)) (by omega)) ?_
      refine g_scr hC hX hbz (i := 6 * j + 2) (by omega) hL dL_law_991 992 rfl ?_
      refine g_topi (y := nI i) ei ?_
      refine g_calli (g_V (As := [.int (nI k), .int (nI i)]) (rest := []) hC mvX0_receivedFrame q2394 (gOf.of hC.K cI0 hM_0) (met_X_receivedFrame l G M x sv ms tx (nI lc) ta of f q k i ⟨by omega, by omega⟩ hk hin (by omega) hM_0 hB) ⟨rfl, rfl⟩ ⟨(Nat.le_of_ble_eq_true rfl), (Nat.le_of_ble_eq_true rfl)⟩ rfl (Nat.le_of_ble_eq_true rfl) dL_law_992 rfl ⟨(by first | omega | exact Nat.le_of_ble_eq_true rfl | (show _ ≤ 601471; omega) | (show _ ≤ 7291690; omega)), (by first | omega | exact Nat.le_of_ble_eq_true rfl | (show _ ≤ 601471; omega) | (show _ ≤ 7291690; omega))⟩) (9200 * j + 300 + 1) (by first | omega | exact Nat.le_of_ble_eq_true rfl | (show _ ≤ 601471; omega) | (show _ ≤ 7291690; omega)) (70000 * j + 20000 + 4) (by first | omega | exact Nat.le_of_ble_eq_true rfl | (show _ ≤ 601471; omega) | (show _ ≤ 7291690; omega)) 995 rfl (fun r4 M1 k2 hp3 => ?_)
      obtain ⟨rfl, hpd5, hF6, hk7⟩ := hp3
      refine g_aload_n hC dL_law_995 2 rfl gRef_r 996 rfl ?_
      refine g_aload_n hC dL_law_996 0 rfl gRef_r 997 rfl ?_
      refine g_iload_n hC dL_law_997 3 rfl 998 rfl ?_
      refine g_iconst hC dL_law_998 ki_1 999 rfl ?_
      refine g_iadd hC dL_law_999 1000 rfl ?_
      refine g_topi (y := nI (6 * j + 1)) (nI_a (a := (6 * j)) (b := 1) (c := (6 * j + 1)) (by omega)) ?_
      refine g_scr hC hX hbz (i := 6 * j + 1) (by omega) hL dL_law_1000 1001 rfl ?_
      refine g_topi (y := nI k) ek ?_
      refine g_aload_n hC dL_law_1001 0 rfl gRef_r 1002 rfl ?_
      refine g_iload_n hC dL_law_1002 3 rfl 1003 rfl ?_
      refine g_iconst hC dL_law_1003 ki_2 1004 rfl ?_
      refine g_iadd hC dL_law_1004 1005 rfl ?_
      refine g_topi (y := nI (6 * j + 2)) (nI_a (a := (6 * j)) (b := 2) (c := (6 * j + 2)) (by omega)) ?_
      refine g_scr hC hX hbz (i := 6 * j + 2) (by omega) hL dL_law_1005 1006 rfl ?_
      refine g_topi (y := nI i) ei ?_
      refine g_calliP (g_V (As := [.int (nI k), .int (nI i)]) (rest := [.int (T_gkey f k i)]) hC mvX8_receivedFrame q3271 (gOf.of hC.K cI7 (hF6 _ _ _ hM_3 (show ¬ (tgR 9 0 8) (1, 0) by (try simp only [ndT, tgE, gT, tgR, ndT9, ndW, tg0, Prod.mk.injEq, true_and, and_true, cpyT, msT]); first | done | omega | (simp; done) | simp_all))) (met_T_receivedFrame l G M1 m0 av asp ak aik atx (nI lc) am (nI mc) aa (nI pc_) ato f k i hk hin (by omega) (hF6 _ _ _ hM_3 (show ¬ (tgR 9 0 8) (1, 0) by (try simp only [ndT, tgE, gT, tgR, ndT9, ndW, tg0, Prod.mk.injEq, true_and, and_true, cpyT, msT]); first | done | omega | (simp; done) | simp_all)) (hF6 _ _ _ hM_4 (show ¬ (tgR 9 0 8) (1, 1) by (try simp only [ndT, tgE, gT, tgR, ndT9, ndW, tg0, Prod.mk.injEq, true_and, and_true, cpyT, msT]); first | done | omega | (simp; done) | simp_all))) ⟨rfl, rfl⟩ ⟨(Nat.le_of_ble_eq_true rfl), (Nat.le_of_ble_eq_true rfl)⟩ rfl (Nat.le_of_ble_eq_true rfl) dL_law_1006 rfl ⟨(by first | omega | exact Nat.le_of_ble_eq_true rfl | (show _ ≤ 601471; omega) | (show _ ≤ 7291690; omega)), (by first | omega | exact Nat.le_of_ble_eq_true rfl | (show _ ≤ 601471; omega) | (show _ ≤ 7291690; omega))⟩) 1009 rfl (70000 * j + 20000 + 4) (by first | omega | exact Nat.le_of_ble_eq_true rfl | (show _ ≤ 601471; omega) | (show _ ≤ 7291690; omega)) ?_
      refine g_icmp_eq hC dL_law_1009 1649 rfl 1012 rfl (fun c_8 => ?_) (fun c_8 => ?_)
      · exact ih M1 ⟨ta, of, sv, ms, tx, lc, av, asp, ak, aik, atx, am, mc, aa, pc_, ato, t0, t1, f, txf, sp, kf, ik, gm, ga, gt, A, ⟨⟨by omega, by omega⟩, ⟨by omega, by omega⟩, ⟨by omega, by omega⟩, by omega, by omega, by omega, by omega, by omega, by omega⟩, htx, (hF6 _ _ _ hM_0 (show ¬ (tgR 9 0 8) (8, 0) by (try simp only [ndT, tgE, gT, tgR, ndT9, ndW, tg0, Prod.mk.injEq, true_and, and_true, cpyT, msT]); first | done | omega | (simp; done) | simp_all)), (hF6 _ _ _ hM_1 (show ¬ (tgR 9 0 8) (8, 1) by (try simp only [ndT, tgE, gT, tgR, ndT9, ndW, tg0, Prod.mk.injEq, true_and, and_true, cpyT, msT]); first | done | omega | (simp; done) | simp_all)), (hF6 _ _ _ hM_2 (show ¬ (tgR 9 0 8) (8, 5) by (try simp only [ndT, tgE, gT, tgR, ndT9, ndW, tg0, Prod.mk.injEq, true_and, and_true, cpyT, msT]); first | done | omega | (simp; done) | simp_all)), (hF6 _ _ _ hM_3 (show ¬ (tgR 9 0 8) (1, 0) by (try simp only [ndT, tgE, gT, tgR, ndT9, ndW, tg0, Prod.mk.injEq, true_and, and_true, cpyT, msT]); first | done | omega | (simp; done) | simp_all)), (hF6 _ _ _ hM_4 (show ¬ (tgR 9 0 8) (1, 1) by (try simp only [ndT, tgE, gT, tgR, ndT9, ndW, tg0, Prod.mk.injEq, true_and, and_true, cpyT, msT]); first | done | omega | (simp; done) | simp_all)), (hF6 _ _ _ hM_5 (show ¬ (tgR 9 0 8) (1, 2) by (try simp only [ndT, tgE, gT, tgR, ndT9, ndW, tg0, Prod.mk.injEq, true_and, and_true, cpyT, msT]); first | done | omega | (simp; done) | simp_all)), (hF6 _ _ _ hM_6 (show ¬ (tgR 9 0 8) (1, 3) by (try simp only [ndT, tgE, gT, tgR, ndT9, ndW, tg0, Prod.mk.injEq, true_and, and_true, cpyT, msT]); first | done | omega | (simp; done) | simp_all)), (hF6 _ _ _ hM_7 (show ¬ (tgR 9 0 8) (1, 4) by (try simp only [ndT, tgE, gT, tgR, ndT9, ndW, tg0, Prod.mk.injEq, true_and, and_true, cpyT, msT]); first | done | omega | (simp; done) | simp_all)), (hF6 _ _ _ hM_8 (show ¬ (tgR 9 0 8) (1, 5) by (try simp only [ndT, tgE, gT, tgR, ndT9, ndW, tg0, Prod.mk.injEq, true_and, and_true, cpyT, msT]); first | done | omega | (simp; done) | simp_all)), (hF6 _ _ _ hM_9 (show ¬ (tgR 9 0 8) (1, 6) by (try simp only [ndT, tgE, gT, tgR, ndT9, ndW, tg0, Prod.mk.injEq, true_and, and_true, cpyT, msT]); first | done | omega | (simp; done) | simp_all)), (hF6 _ _ _ hM_10 (show ¬ (tgR 9 0 8) (1, 7) by (try simp only [ndT, tgE, gT, tgR, ndT9, ndW, tg0, Prod.mk.injEq, true_and, and_true, cpyT, msT]); first | done | omega | (simp; done) | simp_all)), (hF6 _ _ _ hM_11 (show ¬ (tgR 9 0 8) (1, 8) by (try simp only [ndT, tgE, gT, tgR, ndT9, ndW, tg0, Prod.mk.injEq, true_and, and_true, cpyT, msT]); first | done | omega | (simp; done) | simp_all)), busR.mono hpd5 (by omega), ((sv1.fr hS0 (gFr.refl.trans (hF6.mono (fun b t h => by obtain ⟨u9, v9⟩ := t; revert h; (try simp only [ndT, tgE, gT, tgR, ndT9, ndW, tg0, Prod.mk.injEq, true_and, and_true, cpyT, msT]); first | done | omega | (simp; done) | (intro h; simp_all; done))))).mono (by omega)), ((sv1.fr hS1 (gFr.refl.trans (hF6.mono (fun b t h => by obtain ⟨u9, v9⟩ := t; revert h; (try simp only [ndT, tgE, gT, tgR, ndT9, ndW, tg0, Prod.mk.injEq, true_and, and_true, cpyT, msT]); first | done | omega | (simp; done) | (intro h; simp_all; done))))).mono (by omega)), (msR.fr hMs (gFr.refl.trans (hF6.mono (fun b t h => by obtain ⟨u9, v9⟩ := t; revert h; (try simp only [ndT, tgE, gT, tgR, ndT9, ndW, tg0, Prod.mk.injEq, true_and, and_true, cpyT, msT]); first | done | omega | (simp; done) | (intro h; simp_all; done)))))⟩
      · exact absurd rfl c_8
    · refine g_aload_n hC dL_law_981 1 rfl gRef_r 982 rfl ?_
      refine g_aload_n hC dL_law_982 0 rfl gRef_r 983 rfl ?_
      refine g_iload_n hC dL_law_983 3 rfl 984 rfl ?_
      refine g_iconst hC dL_law_984 ki_1 985 rfl ?_
      refine g_iadd hC dL_law_985 986 rfl ?_
      refine g_topi (y := nI (6 * j + 1)) (nI_a (a := (6 * j)) (b := 1) (c := (6 * j + 1)) (by omega)) ?_
      refine g_scr hC hX hbz (i := 6 * j + 1) (by omega) hL dL_law_986 987 rfl ?_
      refine g_topi (y := nI k) ek ?_
      refine g_aload_n hC dL_law_987 0 rfl gRef_r 988 rfl ?_
      refine g_iload_n hC dL_law_988 3 rfl 989 rfl ?_
      refine g_iconst hC dL_law_989 ki_2 990 rfl ?_
      refine g_iadd hC dL_law_990 991 rfl ?_
      refine g_topi (y := nI (6 * j + 2)) (nI_a (a := (6 * j)) (b := 2) (c := (6 * j + 2)) (by omega)) ?_
      refine g_scr hC hX hbz (i := 6 * j + 2) (by omega) hL dL_law_991 992 rfl ?_
      refine g_calli (g_V (As := [.int (nI k), .int (xs (6 * j + 2))]) (rest := []) hC mvX0_receivedFrame q2394 (gOf.of hC.K cI0 hM_0) (met_X_receivedFrame_o l G M x sv ms tx (nI lc) ta of f q k (xs (6 * j + 2)) ⟨by omega, by omega⟩ hk hin hM_0 hB) ⟨rfl, rfl⟩ ⟨(Nat.le_of_ble_eq_true rfl), (Nat.le_of_ble_eq_true rfl)⟩ rfl (Nat.le_of_ble_eq_true rfl) dL_law_992 rfl ⟨(by first | omega | exact Nat.le_of_ble_eq_true rfl | (show _ ≤ 601471; omega) | (show _ ≤ 7291690; omega)), (by first | omega | exact Nat.le_of_ble_eq_true rfl | (show _ ≤ 601471; omega) | (show _ ≤ 7291690; omega))⟩) (9200 * j + 300 + 1) (by first | omega | exact Nat.le_of_ble_eq_true rfl | (show _ ≤ 601471; omega) | (show _ ≤ 7291690; omega)) (70000 * j + 20000 + 4) (by first | omega | exact Nat.le_of_ble_eq_true rfl | (show _ ≤ 601471; omega) | (show _ ≤ 7291690; omega)) 995 rfl (fun r12 M9 k10 hp11 => ?_)
      obtain ⟨rfl, hpd13, hF14, hk15⟩ := hp11
      refine g_aload_n hC dL_law_995 2 rfl gRef_r 996 rfl ?_
      refine g_aload_n hC dL_law_996 0 rfl gRef_r 997 rfl ?_
      refine g_iload_n hC dL_law_997 3 rfl 998 rfl ?_
      refine g_iconst hC dL_law_998 ki_1 999 rfl ?_
      refine g_iadd hC dL_law_999 1000 rfl ?_
      refine g_topi (y := nI (6 * j + 1)) (nI_a (a := (6 * j)) (b := 1) (c := (6 * j + 1)) (by omega)) ?_
      refine g_scr hC hX hbz (i := 6 * j + 1) (by omega) hL dL_law_1000 1001 rfl ?_
      refine g_topi (y := nI k) ek ?_
      refine g_aload_n hC dL_law_1001 0 rfl gRef_r 1002 rfl ?_
      refine g_iload_n hC dL_law_1002 3 rfl 1003 rfl ?_
      refine g_iconst hC dL_law_1003 ki_2 1004 rfl ?_
      refine g_iadd hC dL_law_1004 1005 rfl ?_
      refine g_topi (y := nI (6 * j + 2)) (nI_a (a := (6 * j)) (b := 2) (c := (6 * j + 2)) (by omega)) ?_
      refine g_scr hC hX hbz (i := 6 * j + 2) (by omega) hL dL_law_1005 1006 rfl ?_
      refine g_calliP (g_V (As := [.int (nI k), .int (xs (6 * j + 2))]) (rest := [.int (-5)]) hC mvX8_receivedFrame q3271 (gOf.of hC.K cI7 (hF14 _ _ _ hM_3 (show ¬ (tgR 9 0 8) (1, 0) by (try simp only [ndT, tgE, gT, tgR, ndT9, ndW, tg0, Prod.mk.injEq, true_and, and_true, cpyT, msT]); first | done | omega | (simp; done) | simp_all))) (met_T_receivedFrame_o l G M9 m0 av asp ak aik atx (nI lc) am (nI mc) aa (nI pc_) ato f k (xs (6 * j + 2)) hk hin (hF14 _ _ _ hM_3 (show ¬ (tgR 9 0 8) (1, 0) by (try simp only [ndT, tgE, gT, tgR, ndT9, ndW, tg0, Prod.mk.injEq, true_and, and_true, cpyT, msT]); first | done | omega | (simp; done) | simp_all)) (hF14 _ _ _ hM_4 (show ¬ (tgR 9 0 8) (1, 1) by (try simp only [ndT, tgE, gT, tgR, ndT9, ndW, tg0, Prod.mk.injEq, true_and, and_true, cpyT, msT]); first | done | omega | (simp; done) | simp_all))) ⟨rfl, rfl⟩ ⟨(Nat.le_of_ble_eq_true rfl), (Nat.le_of_ble_eq_true rfl)⟩ rfl (Nat.le_of_ble_eq_true rfl) dL_law_1006 rfl ⟨(by first | omega | exact Nat.le_of_ble_eq_true rfl | (show _ ≤ 601471; omega) | (show _ ≤ 7291690; omega)), (by first | omega | exact Nat.le_of_ble_eq_true rfl | (show _ ≤ 601471; omega) | (show _ ≤ 7291690; omega))⟩) 1009 rfl (70000 * j + 20000 + 4) (by first | omega | exact Nat.le_of_ble_eq_true rfl | (show _ ≤ 601471; omega) | (show _ ≤ 7291690; omega)) ?_
      refine g_icmp_eq hC dL_law_1009 1649 rfl 1012 rfl (fun c_16 => ?_) (fun c_16 => ?_)
      · exact ih M9 ⟨ta, of, sv, ms, tx, lc, av, asp, ak, aik, atx, am, mc, aa, pc_, ato, t0, t1, f, txf, sp, kf, ik, gm, ga, gt, A, ⟨⟨by omega, by omega⟩, ⟨by omega, by omega⟩, ⟨by omega, by omega⟩, by omega, by omega, by omega, by omega, by omega, by omega⟩, htx, (hF14 _ _ _ hM_0 (show ¬ (tgR 9 0 8) (8, 0) by (try simp only [ndT, tgE, gT, tgR, ndT9, ndW, tg0, Prod.mk.injEq, true_and, and_true, cpyT, msT]); first | done | omega | (simp; done) | simp_all)), (hF14 _ _ _ hM_1 (show ¬ (tgR 9 0 8) (8, 1) by (try simp only [ndT, tgE, gT, tgR, ndT9, ndW, tg0, Prod.mk.injEq, true_and, and_true, cpyT, msT]); first | done | omega | (simp; done) | simp_all)), (hF14 _ _ _ hM_2 (show ¬ (tgR 9 0 8) (8, 5) by (try simp only [ndT, tgE, gT, tgR, ndT9, ndW, tg0, Prod.mk.injEq, true_and, and_true, cpyT, msT]); first | done | omega | (simp; done) | simp_all)), (hF14 _ _ _ hM_3 (show ¬ (tgR 9 0 8) (1, 0) by (try simp only [ndT, tgE, gT, tgR, ndT9, ndW, tg0, Prod.mk.injEq, true_and, and_true, cpyT, msT]); first | done | omega | (simp; done) | simp_all)), (hF14 _ _ _ hM_4 (show ¬ (tgR 9 0 8) (1, 1) by (try simp only [ndT, tgE, gT, tgR, ndT9, ndW, tg0, Prod.mk.injEq, true_and, and_true, cpyT, msT]); first | done | omega | (simp; done) | simp_all)), (hF14 _ _ _ hM_5 (show ¬ (tgR 9 0 8) (1, 2) by (try simp only [ndT, tgE, gT, tgR, ndT9, ndW, tg0, Prod.mk.injEq, true_and, and_true, cpyT, msT]); first | done | omega | (simp; done) | simp_all)), (hF14 _ _ _ hM_6 (show ¬ (tgR 9 0 8) (1, 3) by (try simp only [ndT, tgE, gT, tgR, ndT9, ndW, tg0, Prod.mk.injEq, true_and, and_true, cpyT, msT]); first | done | omega | (simp; done) | simp_all)), (hF14 _ _ _ hM_7 (show ¬ (tgR 9 0 8) (1, 4) by (try simp only [ndT, tgE, gT, tgR, ndT9, ndW, tg0, Prod.mk.injEq, true_and, and_true, cpyT, msT]); first | done | omega | (simp; done) | simp_all)), (hF14 _ _ _ hM_8 (show ¬ (tgR 9 0 8) (1, 5) by (try simp only [ndT, tgE, gT, tgR, ndT9, ndW, tg0, Prod.mk.injEq, true_and, and_true, cpyT, msT]); first | done | omega | (simp; done) | simp_all)), (hF14 _ _ _ hM_9 (show ¬ (tgR 9 0 8) (1, 6) by (try simp only [ndT, tgE, gT, tgR, ndT9, ndW, tg0, Prod.mk.injEq, true_and, and_true, cpyT, msT]); first | done | omega | (simp; done) | simp_all)), (hF14 _ _ _ hM_10 (show ¬ (tgR 9 0 8) (1, 7) by (try simp only [ndT, tgE, gT, tgR, ndT9, ndW, tg0, Prod.mk.injEq, true_and, and_true, cpyT, msT]); first | done | omega | (simp; done) | simp_all)), (hF14 _ _ _ hM_11 (show ¬ (tgR 9 0 8) (1, 8) by (try simp only [ndT, tgE, gT, tgR, ndT9, ndW, tg0, Prod.mk.injEq, true_and, and_true, cpyT, msT]); first | done | omega | (simp; done) | simp_all)), busR.mono hpd13 (by omega), ((sv1.fr hS0 (gFr.refl.trans (hF14.mono (fun b t h => by obtain ⟨u9, v9⟩ := t; revert h; (try simp only [ndT, tgE, gT, tgR, ndT9, ndW, tg0, Prod.mk.injEq, true_and, and_true, cpyT, msT]); first | done | omega | (simp; done) | (intro h; simp_all; done))))).mono (by omega)), ((sv1.fr hS1 (gFr.refl.trans (hF14.mono (fun b t h => by obtain ⟨u9, v9⟩ := t; revert h; (try simp only [ndT, tgE, gT, tgR, ndT9, ndW, tg0, Prod.mk.injEq, true_and, and_true, cpyT, msT]); first | done | omega | (simp; done) | (intro h; simp_all; done))))).mono (by omega)), (msR.fr hMs (gFr.refl.trans (hF14.mono (fun b t h => by obtain ⟨u9, v9⟩ := t; revert h; (try simp only [ndT, tgE, gT, tgR, ndT9, ndW, tg0, Prod.mk.injEq, true_and, and_true, cpyT, msT]); first | done | omega | (simp; done) | (intro h; simp_all; done)))))⟩
      · exact absurd c_16 (by decide)
  · refine g_aload_n hC dL_law_981 1 rfl gRef_r 982 rfl ?_
    refine g_aload_n hC dL_law_982 0 rfl gRef_r 983 rfl ?_
    refine g_iload_n hC dL_law_983 3 rfl 984 rfl ?_
    refine g_iconst hC dL_law_984 ki_1 985 rfl ?_
    refine g_iadd hC dL_law_985 986 rfl ?_
    refine g_topi (y := nI (6 * j + 1)) (nI_a (a := (6 * j)) (b := 1) (c := (6 * j + 1)) (by omega)) ?_
    refine g_scr hC hX hbz (i := 6 * j + 1) (by omega) hL dL_law_986 987 rfl ?_
    refine g_aload_n hC dL_law_987 0 rfl gRef_r 988 rfl ?_
    refine g_iload_n hC dL_law_988 3 rfl 989 rfl ?_
    refine g_iconst hC dL_law_989 ki_2 990 rfl ?_
    refine g_iadd hC dL_law_990 991 rfl ?_
    refine g_topi (y := nI (6 * j + 2)) (nI_a (a := (6 * j)) (b := 2) (c := (6 * j + 2)) (by omega)) ?_
    refine g_scr hC hX hbz (i := 6 * j + 2) (by omega) hL dL_law_991 992 rfl ?_
    refine g_calliP (g_V (As := [.int (xs (6 * j + 1)), .int (xs (6 * j + 2))]) (rest := []) hC mvX0_receivedFrame q2394 (gOf.of hC.K cI0 hM_0) (met_X_receivedFrame_n l G M x sv ms tx (nI lc) ta of f q (xs (6 * j + 1)) (xs (6 * j + 2)) hx hM_0) ⟨rfl, rfl⟩ ⟨(Nat.le_of_ble_eq_true rfl), (Nat.le_of_ble_eq_true rfl)⟩ rfl (Nat.le_of_ble_eq_true rfl) dL_law_992 rfl ⟨(by first | omega | exact Nat.le_of_ble_eq_true rfl | (show _ ≤ 601471; omega) | (show _ ≤ 7291690; omega)), (by first | omega | exact Nat.le_of_ble_eq_true rfl | (show _ ≤ 601471; omega) | (show _ ≤ 7291690; omega))⟩) 995 rfl (70000 * j + 20000) (by first | omega | exact Nat.le_of_ble_eq_true rfl | (show _ ≤ 601471; omega) | (show _ ≤ 7291690; omega)) ?_
    refine g_aload_n hC dL_law_995 2 rfl gRef_r 996 rfl ?_
    refine g_aload_n hC dL_law_996 0 rfl gRef_r 997 rfl ?_
    refine g_iload_n hC dL_law_997 3 rfl 998 rfl ?_
    refine g_iconst hC dL_law_998 ki_1 999 rfl ?_
    refine g_iadd hC dL_law_999 1000 rfl ?_
    refine g_topi (y := nI (6 * j + 1)) (nI_a (a := (6 * j)) (b := 1) (c := (6 * j + 1)) (by omega)) ?_
    refine g_scr hC hX hbz (i := 6 * j + 1) (by omega) hL dL_law_1000 1001 rfl ?_
    refine g_aload_n hC dL_law_1001 0 rfl gRef_r 1002 rfl ?_
    refine g_iload_n hC dL_law_1002 3 rfl 1003 rfl ?_
    refine g_iconst hC dL_law_1003 ki_2 1004 rfl ?_
    refine g_iadd hC dL_law_1004 1005 rfl ?_
    refine g_topi (y := nI (6 * j + 2)) (nI_a (a := (6 * j)) (b := 2) (c := (6 * j + 2)) (by omega)) ?_
    refine g_scr hC hX hbz (i := 6 * j + 2) (by omega) hL dL_law_1005 1006 rfl ?_
    refine g_calliP (g_V (As := [.int (xs (6 * j + 1)), .int (xs (6 * j + 2))]) (rest := [.int (-1)]) hC mvX8_receivedFrame q3271 (gOf.of hC.K cI7 hM_3) (met_T_receivedFrame_n l G M m0 av asp ak aik atx (nI lc) am (nI mc) aa (nI pc_) ato f (xs (6 * j + 1)) (xs (6 * j + 2)) hx hM_3 hM_4) ⟨rfl, rfl⟩ ⟨(Nat.le_of_ble_eq_true rfl), (Nat.le_of_ble_eq_true rfl)⟩ rfl (Nat.le_of_ble_eq_true rfl) dL_law_1006 rfl ⟨(by first | omega | exact Nat.le_of_ble_eq_true rfl | (show _ ≤ 601471; omega) | (show _ ≤ 7291690; omega)), (by first | omega | exact Nat.le_of_ble_eq_true rfl | (show _ ≤ 601471; omega) | (show _ ≤ 7291690; omega))⟩) 1009 rfl (70000 * j + 20000) (by first | omega | exact Nat.le_of_ble_eq_true rfl | (show _ ≤ 601471; omega) | (show _ ≤ 7291690; omega)) ?_
    refine g_icmp_eq hC dL_law_1009 1649 rfl 1012 rfl (fun c_17 => ?_) (fun c_17 => ?_)
    · exact ih M ⟨ta, of, sv, ms, tx, lc, av, asp, ak, aik, atx, am, mc, aa, pc_, ato, t0, t1, f, txf, sp, kf, ik, gm, ga, gt, A, ⟨⟨by omega, by omega⟩, ⟨by omega, by omega⟩, ⟨by omega, by omega⟩, by omega, by omega, by omega, by omega, by omega, by omega⟩, htx, hM_0, hM_1, hM_2, hM_3, hM_4, hM_5, hM_6, hM_7, hM_8, hM_9, hM_10, hM_11, busR.mono hB (by omega), (hS0.mono (by omega)), (hS1.mono (by omega)), hMs⟩
    · exact absurd c_17 (by decide)
set_option maxHeartbeats 4000000 in
theorem lwc_26 {nm : String} {p : Program} {l : Launch} {e : Env} {s : State} {m : MethodId} {args : Array Value} {below : List Frame} {meth : Method} {c : Code} {G : gG} {Q : State → Prop} {M : gM} {b L x m0 q j : Nat} {xs : Nat → Int32} (hC : gC p s m args meth c G 4 cL_law "ArbitratedBusLaw" nm (some .boolean)) (hX : va_X b L xs s s.heap) (hbz : b < s.heap.size ∧ b < gz G) (hL : L ≤ 384) (hj : 6 * j + 6 ≤ L) (hqj : q ≤ 1100 * j) (hI : LW M G x m0 q) (ih : ∀ M', LW M' G x m0 (q + 1100) → gJ p l e room_1 s m args below meth c G 4 Q (9200 * (j + 1) + 300) (70000 * (j + 1) + 20000) M' 1649 [(0, .ref b), (1, .ref x), (2, .ref m0), (3, .int (nI (6 * j)))] []) : gJ p l e room_1 s m args below meth c G 4 Q (9200 * j + 300) (70000 * j + 20000) M 1014 [(0, .ref b), (1, .ref x), (2, .ref m0), (3, .int (nI (6 * j)))] [] := by
  obtain ⟨ta, of, sv, ms, tx, lc, av, asp, ak, aik, atx, am, mc, aa, pc_, ato, t0, t1, f, txf, sp, kf, ik, gm, ga, gt, A, ⟨⟨hta2, hta6⟩, ⟨ht02, ht06⟩, ⟨ht12, ht16⟩, ha0, ha1, h01, hlc, hpc, hmc⟩, htx, hM_0, hM_1, hM_2, hM_3, hM_4, hM_5, hM_6, hM_7, hM_8, hM_9, hM_10, hM_11, hB, hS0, hS1, hMs⟩ := hI
  have hokA := busR.ok hB (by omega)
  by_cases hx : (0 ≤ xs (6 * j + 1) ∧ xs (6 * j + 1) ≤ 3)
  · obtain ⟨k, hk, ek⟩ := nk_of hx
    by_cases hin : (0 ≤ xs (6 * j + 2) ∧ xs (6 * j + 2) ≤ f (256 * k + 24) - 1)
    · obtain ⟨i, hi, ei⟩ := idx_n (n := 6) hin (okAll.nr hokA hk).1 (okAll.nr hokA hk).2
      rw [ei] at hin
      refine g_aload_n hC dL_law_1014 1 rfl gRef_r 1015 rfl ?_
      refine g_aload_n hC dL_law_1015 0 rfl gRef_r 1016 rfl ?_
      refine g_iload_n hC dL_law_1016 3 rfl 1017 rfl ?_
      refine g_iconst hC dL_law_1017 ki_1 1018 rfl ?_
      refine g_iadd hC dL_law_1018 1019 rfl ?_
      refine g_topi (y := nI (6 * j + 1)) (nI_a (a := (6 * j)) (b := 1) (c := (6 * j + 1)) (by omega)) ?_
      refine g_scr hC hX hbz (i := 6 * j + 1) (by omega) hL dL_law_1019 1020 rfl ?_
      refine g_topi (y := nI k) ek ?_
      refine g_aload_n hC dL_law_1020 0 rfl gRef_r 1021 rfl ?_
      refine g_iload_n hC dL_law_1021 3 rfl 1022 rfl ?_
      refine g_iconst hC dL_law_1022 ki_2 1023 rfl ?_
      refine g_iadd hC dL_law_1023 1024 rfl ?_
      refine g_topi (y := nI (6 * j + 2)) (nI_a (a := (6 * j)) (b := 2) (c := (6 * j + 2)) (by omega)) ?_
      refine g_scr hC hX hbz (i := 6 * j + 2) (by omega) hL dL_law_1024 1025 rfl ?_
      refine g_topi (y := nI i) ei ?_
      refine g_calli (g_V (As := [.int (nI k), .int (nI i)]) (rest := []) hC mvX0_receivedLength q2430 (gOf.of hC.K cI0 hM_0) (met_X_receivedLength l G M x sv ms tx (nI lc) ta of f q k i ⟨by omega, by omega⟩ hk hin (by omega) hM_0 hB) ⟨rfl, rfl⟩ ⟨(Nat.le_of_ble_eq_true rfl), (Nat.le_of_ble_eq_true rfl)⟩ rfl (Nat.le_of_ble_eq_true rfl) dL_law_1025 rfl ⟨(by first | omega | exact Nat.le_of_ble_eq_true rfl | (show _ ≤ 601471; omega) | (show _ ≤ 7291690; omega)), (by first | omega | exact Nat.le_of_ble_eq_true rfl | (show _ ≤ 601471; omega) | (show _ ≤ 7291690; omega))⟩) (9200 * j + 300 + 1) (by first | omega | exact Nat.le_of_ble_eq_true rfl | (show _ ≤ 601471; omega) | (show _ ≤ 7291690; omega)) (70000 * j + 20000 + 4) (by first | omega | exact Nat.le_of_ble_eq_true rfl | (show _ ≤ 601471; omega) | (show _ ≤ 7291690; omega)) 1028 rfl (fun r4 M1 k2 hp3 => ?_)
      obtain ⟨rfl, hpd5, hF6, hk7⟩ := hp3
      refine g_aload_n hC dL_law_1028 2 rfl gRef_r 1029 rfl ?_
      refine g_aload_n hC dL_law_1029 0 rfl gRef_r 1030 rfl ?_
      refine g_iload_n hC dL_law_1030 3 rfl 1031 rfl ?_
      refine g_iconst hC dL_law_1031 ki_1 1032 rfl ?_
      refine g_iadd hC dL_law_1032 1033 rfl ?_
      refine g_topi (y := nI (6 * j + 1)) (nI_a (a := (6 * j)) (b := 1) (c := (6 * j + 1)) (by omega)) ?_
      refine g_scr hC hX hbz (i := 6 * j + 1) (by omega) hL dL_law_1033 1034 rfl ?_
      refine g_topi (y := nI k) ek ?_
      refine g_aload_n hC dL_law_1034 0 rfl gRef_r 1035 rfl ?_
      refine g_iload_n hC dL_law_1035 3 rfl 1036 rfl ?_
      refine g_iconst hC dL_law_1036 ki_2 1037 rfl ?_
      refine g_iadd hC dL_law_1037 1038 rfl ?_
      refine g_topi (y := nI (6 * j + 2)) (nI_a (a := (6 * j)) (b := 2) (c := (6 * j + 2)) (by omega)) ?_
      refine g_scr hC hX hbz (i := 6 * j + 2) (by omega) hL dL_law_1038 1039 rfl ?_
      refine g_topi (y := nI i) ei ?_
      refine g_calliP (g_V (As := [.int (nI k), .int (nI i)]) (rest := [.int (f (256 * k + 4 * i + 52))]) hC mvX8_receivedLength q3283 (gOf.of hC.K cI7 (hF6 _ _ _ hM_3 (show ¬ (tgR 9 0 8) (1, 0) by (try simp only [ndT, tgE, gT, tgR, ndT9, ndW, tg0, Prod.mk.injEq, true_and, and_true, cpyT, msT]); first | done | omega | (simp; done) | simp_all))) (met_T_receivedLength l G M1 m0 av asp ak aik atx (nI lc) am (nI mc) aa (nI pc_) ato f k i hk hin (by omega) (hF6 _ _ _ hM_3 (show ¬ (tgR 9 0 8) (1, 0) by (try simp only [ndT, tgE, gT, tgR, ndT9, ndW, tg0, Prod.mk.injEq, true_and, and_true, cpyT, msT]); first | done | omega | (simp; done) | simp_all)) (hF6 _ _ _ hM_4 (show ¬ (tgR 9 0 8) (1, 1) by (try simp only [ndT, tgE, gT, tgR, ndT9, ndW, tg0, Prod.mk.injEq, true_and, and_true, cpyT, msT]); first | done | omega | (simp; done) | simp_all))) ⟨rfl, rfl⟩ ⟨(Nat.le_of_ble_eq_true rfl), (Nat.le_of_ble_eq_true rfl)⟩ rfl (Nat.le_of_ble_eq_true rfl) dL_law_1039 rfl ⟨(by first | omega | exact Nat.le_of_ble_eq_true rfl | (show _ ≤ 601471; omega) | (show _ ≤ 7291690; omega)), (by first | omega | exact Nat.le_of_ble_eq_true rfl | (show _ ≤ 601471; omega) | (show _ ≤ 7291690; omega))⟩) 1042 rfl (70000 * j + 20000 + 4) (by first | omega | exact Nat.le_of_ble_eq_true rfl | (show _ ≤ 601471; omega) | (show _ ≤ 7291690; omega)) ?_
      refine g_icmp_eq hC dL_law_1042 1649 rfl 1045 rfl (fun c_8 => ?_) (fun c_8 => ?_)
      · exact ih M1 ⟨ta, of, sv, ms, tx, lc, av, asp, ak, aik, atx, am, mc, aa, pc_, ato, t0, t1, f, txf, sp, kf, ik, gm, ga, gt, A, ⟨⟨by omega, by omega⟩, ⟨by omega, by omega⟩, ⟨by omega, by omega⟩, by omega, by omega, by omega, by omega, by omega, by omega⟩, htx, (hF6 _ _ _ hM_0 (show ¬ (tgR 9 0 8) (8, 0) by (try simp only [ndT, tgE, gT, tgR, ndT9, ndW, tg0, Prod.mk.injEq, true_and, and_true, cpyT, msT]); first | done | omega | (simp; done) | simp_all)), (hF6 _ _ _ hM_1 (show ¬ (tgR 9 0 8) (8, 1) by (try simp only [ndT, tgE, gT, tgR, ndT9, ndW, tg0, Prod.mk.injEq, true_and, and_true, cpyT, msT]); first | done | omega | (simp; done) | simp_all)), (hF6 _ _ _ hM_2 (show ¬ (tgR 9 0 8) (8, 5) by (try simp only [ndT, tgE, gT, tgR, ndT9, ndW, tg0, Prod.mk.injEq, true_and, and_true, cpyT, msT]); first | done | omega | (simp; done) | simp_all)), (hF6 _ _ _ hM_3 (show ¬ (tgR 9 0 8) (1, 0) by (try simp only [ndT, tgE, gT, tgR, ndT9, ndW, tg0, Prod.mk.injEq, true_and, and_true, cpyT, msT]); first | done | omega | (simp; done) | simp_all)), (hF6 _ _ _ hM_4 (show ¬ (tgR 9 0 8) (1, 1) by (try simp only [ndT, tgE, gT, tgR, ndT9, ndW, tg0, Prod.mk.injEq, true_and, and_true, cpyT, msT]); first | done | omega | (simp; done) | simp_all)), (hF6 _ _ _ hM_5 (show ¬ (tgR 9 0 8) (1, 2) by (try simp only [ndT, tgE, gT, tgR, ndT9, ndW, tg0, Prod.mk.injEq, true_and, and_true, cpyT, msT]); first | done | omega | (simp; done) | simp_all)), (hF6 _ _ _ hM_6 (show ¬ (tgR 9 0 8) (1, 3) by (try simp only [ndT, tgE, gT, tgR, ndT9, ndW, tg0, Prod.mk.injEq, true_and, and_true, cpyT, msT]); first | done | omega | (simp; done) | simp_all)), (hF6 _ _ _ hM_7 (show ¬ (tgR 9 0 8) (1, 4) by (try simp only [ndT, tgE, gT, tgR, ndT9, ndW, tg0, Prod.mk.injEq, true_and, and_true, cpyT, msT]); first | done | omega | (simp; done) | simp_all)), (hF6 _ _ _ hM_8 (show ¬ (tgR 9 0 8) (1, 5) by (try simp only [ndT, tgE, gT, tgR, ndT9, ndW, tg0, Prod.mk.injEq, true_and, and_true, cpyT, msT]); first | done | omega | (simp; done) | simp_all)), (hF6 _ _ _ hM_9 (show ¬ (tgR 9 0 8) (1, 6) by (try simp only [ndT, tgE, gT, tgR, ndT9, ndW, tg0, Prod.mk.injEq, true_and, and_true, cpyT, msT]); first | done | omega | (simp; done) | simp_all)), (hF6 _ _ _ hM_10 (show ¬ (tgR 9 0 8) (1, 7) by (try simp only [ndT, tgE, gT, tgR, ndT9, ndW, tg0, Prod.mk.injEq, true_and, and_true, cpyT, msT]); first | done | omega | (simp; done) | simp_all)), (hF6 _ _ _ hM_11 (show ¬ (tgR 9 0 8) (1, 8) by (try simp only [ndT, tgE, gT, tgR, ndT9, ndW, tg0, Prod.mk.injEq, true_and, and_true, cpyT, msT]); first | done | omega | (simp; done) | simp_all)), busR.mono hpd5 (by omega), ((sv1.fr hS0 (gFr.refl.trans (hF6.mono (fun b t h => by obtain ⟨u9, v9⟩ := t; revert h; (try simp only [ndT, tgE, gT, tgR, ndT9, ndW, tg0, Prod.mk.injEq, true_and, and_true, cpyT, msT]); first | done | omega | (simp; done) | (intro h; simp_all; done))))).mono (by omega)), ((sv1.fr hS1 (gFr.refl.trans (hF6.mono (fun b t h => by obtain ⟨u9, v9⟩ := t; revert h; (try simp only [ndT, tgE, gT, tgR, ndT9, ndW, tg0, Prod.mk.injEq, true_and, and_true, cpyT, msT]); first | done | omega | (simp; done) | (intro h; simp_all; done))))).mono (by omega)), (msR.fr hMs (gFr.refl.trans (hF6.mono (fun b t h => by obtain ⟨u9, v9⟩ := t; revert h; (try simp only [ndT, tgE, gT, tgR, ndT9, ndW, tg0, Prod.mk.injEq, true_and, and_true, cpyT, msT]); first | done | omega | (simp; done) | (intro h; simp_all; done)))))⟩
      · exact absurd rfl c_8
    · refine g_aload_n hC dL_law_1014 1 rfl gRef_r 1015 rfl ?_
      refine g_aload_n hC dL_law_1015 0 rfl gRef_r 1016 rfl ?_
      refine g_iload_n hC dL_law_1016 3 rfl 1017 rfl ?_
      refine g_iconst hC dL_law_1017 ki_1 1018 rfl ?_
      refine g_iadd hC dL_law_1018 1019 rfl ?_
      refine g_topi (y := nI (6 * j + 1)) (nI_a (a := (6 * j)) (b := 1) (c := (6 * j + 1)) (by omega)) ?_
      refine g_scr hC hX hbz (i := 6 * j + 1) (by omega) hL dL_law_1019 1020 rfl ?_
      refine g_topi (y := nI k) ek ?_
      refine g_aload_n hC dL_law_1020 0 rfl gRef_r 1021 rfl ?_
      refine g_iload_n hC dL_law_1021 3 rfl 1022 rfl ?_
      refine g_iconst hC dL_law_1022 ki_2 1023 rfl ?_
      refine g_iadd hC dL_law_1023 1024 rfl ?_
      refine g_topi (y := nI (6 * j + 2)) (nI_a (a := (6 * j)) (b := 2) (c := (6 * j + 2)) (by omega)) ?_
      refine g_scr hC hX hbz (i := 6 * j + 2) (by omega) hL dL_law_1024 1025 rfl ?_
      refine g_calli (g_V (As := [.int (nI k), .int (xs (6 * j + 2))]) (rest := []) hC mvX0_receivedLength q2430 (gOf.of hC.K cI0 hM_0) (met_X_receivedLength_o l G M x sv ms tx (nI lc) ta of f q k (xs (6 * j + 2)) ⟨by omega, by omega⟩ hk hin hM_0 hB) ⟨rfl, rfl⟩ ⟨(Nat.le_of_ble_eq_true rfl), (Nat.le_of_ble_eq_true rfl)⟩ rfl (Nat.le_of_ble_eq_true rfl) dL_law_1025 rfl ⟨(by first | omega | exact Nat.le_of_ble_eq_true rfl | (show _ ≤ 601471; omega) | (show _ ≤ 7291690; omega)), (by first | omega | exact Nat.le_of_ble_eq_true rfl | (show _ ≤ 601471; omega) | (show _ ≤ 7291690; omega))⟩) (9200 * j + 300 + 1) (by first | omega | exact Nat.le_of_ble_eq_true rfl | (show _ ≤ 601471; omega) | (show _ ≤ 7291690; omega)) (70000 * j + 20000 + 4) (by first | omega | exact Nat.le_of_ble_eq_true rfl | (show _ ≤ 601471; omega) | (show _ ≤ 7291690; omega)) 1028 rfl (fun r12 M9 k10 hp11 => ?_)
      obtain ⟨rfl, hpd13, hF14, hk15⟩ := hp11
      refine g_aload_n hC dL_law_1028 2 rfl gRef_r 1029 rfl ?_
      refine g_aload_n hC dL_law_1029 0 rfl gRef_r 1030 rfl ?_
      refine g_iload_n hC dL_law_1030 3 rfl 1031 rfl ?_
      refine g_iconst hC dL_law_1031 ki_1 1032 rfl ?_
      refine g_iadd hC dL_law_1032 1033 rfl ?_
      refine g_topi (y := nI (6 * j + 1)) (nI_a (a := (6 * j)) (b := 1) (c := (6 * j + 1)) (by omega)) ?_
      refine g_scr hC hX hbz (i := 6 * j + 1) (by omega) hL dL_law_1033 1034 rfl ?_
      refine g_topi (y := nI k) ek ?_
      refine g_aload_n hC dL_law_1034 0 rfl gRef_r 1035 rfl ?_
      refine g_iload_n hC dL_law_1035 3 rfl 1036 rfl ?_
      refine g_iconst hC dL_law_1036 ki_2 1037 rfl ?_
      refine g_iadd hC dL_law_1037 1038 rfl ?_
      refine g_topi (y := nI (6 * j + 2)) (nI_a (a := (6 * j)) (b := 2) (c := (6 * j + 2)) (by omega)) ?_
      refine g_scr hC hX hbz (i := 6 * j + 2) (by omega) hL dL_law_1038 1039 rfl ?_
      refine g_calliP (g_V (As := [.int (nI k), .int (xs (6 * j + 2))]) (rest := [.int (-5)]) hC mvX8_receivedLength q3283 (gOf.of hC.K cI7 (hF14 _ _ _ hM_3 (show ¬ (tgR 9 0 8) (1, 0) by (try simp only [ndT, tgE, gT, tgR, ndT9, ndW, tg0, Prod.mk.injEq, true_and, and_true, cpyT, msT]); first | done | omega | (simp; done) | simp_all))) (met_T_receivedLength_o l G M9 m0 av asp ak aik atx (nI lc) am (nI mc) aa (nI pc_) ato f k (xs (6 * j + 2)) hk hin (hF14 _ _ _ hM_3 (show ¬ (tgR 9 0 8) (1, 0) by (try simp only [ndT, tgE, gT, tgR, ndT9, ndW, tg0, Prod.mk.injEq, true_and, and_true, cpyT, msT]); first | done | omega | (simp; done) | simp_all)) (hF14 _ _ _ hM_4 (show ¬ (tgR 9 0 8) (1, 1) by (try simp only [ndT, tgE, gT, tgR, ndT9, ndW, tg0, Prod.mk.injEq, true_and, and_true, cpyT, msT]); first | done | omega | (simp; done) | simp_all))) ⟨rfl, rfl⟩ ⟨(Nat.le_of_ble_eq_true rfl), (Nat.le_of_ble_eq_true rfl)⟩ rfl (Nat.le_of_ble_eq_true rfl) dL_law_1039 rfl ⟨(by first | omega | exact Nat.le_of_ble_eq_true rfl | (show _ ≤ 601471; omega) | (show _ ≤ 7291690; omega)), (by first | omega | exact Nat.le_of_ble_eq_true rfl | (show _ ≤ 601471; omega) | (show _ ≤ 7291690; omega))⟩) 1042 rfl (70000 * j + 20000 + 4) (by first | omega | exact Nat.le_of_ble_eq_true rfl | (show _ ≤ 601471; omega) | (show _ ≤ 7291690; omega)) ?_
      refine g_icmp_eq hC dL_law_1042 1649 rfl 1045 rfl (fun c_16 => ?_) (fun c_16 => ?_)
      · exact ih M9 ⟨ta, of, sv, ms, tx, lc, av, asp, ak, aik, atx, am, mc, aa, pc_, ato, t0, t1, f, txf, sp, kf, ik, gm, ga, gt, A, ⟨⟨by omega, by omega⟩, ⟨by omega, by omega⟩, ⟨by omega, by omega⟩, by omega, by omega, by omega, by omega, by omega, by omega⟩, htx, (hF14 _ _ _ hM_0 (show ¬ (tgR 9 0 8) (8, 0) by (try simp only [ndT, tgE, gT, tgR, ndT9, ndW, tg0, Prod.mk.injEq, true_and, and_true, cpyT, msT]); first | done | omega | (simp; done) | simp_all)), (hF14 _ _ _ hM_1 (show ¬ (tgR 9 0 8) (8, 1) by (try simp only [ndT, tgE, gT, tgR, ndT9, ndW, tg0, Prod.mk.injEq, true_and, and_true, cpyT, msT]); first | done | omega | (simp; done) | simp_all)), (hF14 _ _ _ hM_2 (show ¬ (tgR 9 0 8) (8, 5) by (try simp only [ndT, tgE, gT, tgR, ndT9, ndW, tg0, Prod.mk.injEq, true_and, and_true, cpyT, msT]); first | done | omega | (simp; done) | simp_all)), (hF14 _ _ _ hM_3 (show ¬ (tgR 9 0 8) (1, 0) by (try simp only [ndT, tgE, gT, tgR, ndT9, ndW, tg0, Prod.mk.injEq, true_and, and_true, cpyT, msT]); first | done | omega | (simp; done) | simp_all)), (hF14 _ _ _ hM_4 (show ¬ (tgR 9 0 8) (1, 1) by (try simp only [ndT, tgE, gT, tgR, ndT9, ndW, tg0, Prod.mk.injEq, true_and, and_true, cpyT, msT]); first | done | omega | (simp; done) | simp_all)), (hF14 _ _ _ hM_5 (show ¬ (tgR 9 0 8) (1, 2) by (try simp only [ndT, tgE, gT, tgR, ndT9, ndW, tg0, Prod.mk.injEq, true_and, and_true, cpyT, msT]); first | done | omega | (simp; done) | simp_all)), (hF14 _ _ _ hM_6 (show ¬ (tgR 9 0 8) (1, 3) by (try simp only [ndT, tgE, gT, tgR, ndT9, ndW, tg0, Prod.mk.injEq, true_and, and_true, cpyT, msT]); first | done | omega | (simp; done) | simp_all)), (hF14 _ _ _ hM_7 (show ¬ (tgR 9 0 8) (1, 4) by (try simp only [ndT, tgE, gT, tgR, ndT9, ndW, tg0, Prod.mk.injEq, true_and, and_true, cpyT, msT]); first | done | omega | (simp; done) | simp_all)), (hF14 _ _ _ hM_8 (show ¬ (tgR 9 0 8) (1, 5) by (try simp only [ndT, tgE, gT, tgR, ndT9, ndW, tg0, Prod.mk.injEq, true_and, and_true, cpyT, msT]); first | done | omega | (simp; done) | simp_all)), (hF14 _ _ _ hM_9 (show ¬ (tgR 9 0 8) (1, 6) by (try simp only [ndT, tgE, gT, tgR, ndT9, ndW, tg0, Prod.mk.injEq, true_and, and_true, cpyT, msT]); first | done | omega | (simp; done) | simp_all)), (hF14 _ _ _ hM_10 (show ¬ (tgR 9 0 8) (1, 7) by (try simp only [ndT, tgE, gT, tgR, ndT9, ndW, tg0, Prod.mk.injEq, true_and, and_true, cpyT, msT]); first | done | omega | (simp; done) | simp_all)), (hF14 _ _ _ hM_11 (show ¬ (tgR 9 0 8) (1, 8) by (try simp only [ndT, tgE, gT, tgR, ndT9, ndW, tg0, Prod.mk.injEq, true_and, and_true, cpyT, msT]); first | done | omega | (simp; done) | simp_all)), busR.mono hpd13 (by omega), ((sv1.fr hS0 (gFr.refl.trans (hF14.mono (fun b t h => by obtain ⟨u9, v9⟩ := t; revert h; (try simp only [ndT, tgE, gT, tgR, ndT9, ndW, tg0, Prod.mk.injEq, true_and, and_true, cpyT, msT]); first | done | omega | (simp; done) | (intro h; simp_all; done))))).mono (by omega)), ((sv1.fr hS1 (gFr.refl.trans (hF14.mono (fun b t h => by obtain ⟨u9, v9⟩ := t; revert h; (try simp only [ndT, tgE, gT, tgR, ndT9, ndW, tg0, Prod.mk.injEq, true_and, and_true, cpyT, msT]); first | done | omega | (simp; done) | (intro h; simp_all; done))))).mono (by omega)), (msR.fr hMs (gFr.refl.trans (hF14.mono (fun b t h => by obtain ⟨u9, v9⟩ := t; revert h; (try simp only [ndT, tgE, gT, tgR, ndT9, ndW, tg0, Prod.mk.injEq, true_and, and_true, cpyT, msT]); first | done | omega | (simp; done) | (intro h; simp_all; done)))))⟩
      · exact absurd c_16 (by decide)
  · refine g_aload_n hC dL_law_1014 1 rfl gRef_r 1015 rfl ?_
    refine g_aload_n hC dL_law_1015 0 rfl gRef_r 1016 rfl ?_
    refine g_iload_n hC dL_law_1016 3 rfl 1017 rfl ?_
    refine g_iconst hC dL_law_1017 ki_1 1018 rfl ?_
    refine g_iadd hC dL_law_1018 1019 rfl ?_
    refine g_topi (y := nI (6 * j + 1)) (nI_a (a := (6 * j)) (b := 1) (c := (6 * j + 1)) (by omega)) ?_
    refine g_scr hC hX hbz (i := 6 * j + 1) (by omega) hL dL_law_1019 1020 rfl ?_
    refine g_aload_n hC dL_law_1020 0 rfl gRef_r 1021 rfl ?_
    refine g_iload_n hC dL_law_1021 3 rfl 1022 rfl ?_
    refine g_iconst hC dL_law_1022 ki_2 1023 rfl ?_
    refine g_iadd hC dL_law_1023 1024 rfl ?_
    refine g_topi (y := nI (6 * j + 2)) (nI_a (a := (6 * j)) (b := 2) (c := (6 * j + 2)) (by omega)) ?_
    refine g_scr hC hX hbz (i := 6 * j + 2) (by omega) hL dL_law_1024 1025 rfl ?_
    refine g_calliP (g_V (As := [.int (xs (6 * j + 1)), .int (xs (6 * j + 2))]) (rest := []) hC mvX0_receivedLength q2430 (gOf.of hC.K cI0 hM_0) (met_X_receivedLength_n l G M x sv ms tx (nI lc) ta of f q (xs (6 * j + 1)) (xs (6 * j + 2)) hx hM_0) ⟨rfl, rfl⟩ ⟨(Nat.le_of_ble_eq_true rfl), (Nat.le_of_ble_eq_true rfl)⟩ rfl (Nat.le_of_ble_eq_true rfl) dL_law_1025 rfl ⟨(by first | omega | exact Nat.le_of_ble_eq_true rfl | (show _ ≤ 601471; omega) | (show _ ≤ 7291690; omega)), (by first | omega | exact Nat.le_of_ble_eq_true rfl | (show _ ≤ 601471; omega) | (show _ ≤ 7291690; omega))⟩) 1028 rfl (70000 * j + 20000) (by first | omega | exact Nat.le_of_ble_eq_true rfl | (show _ ≤ 601471; omega) | (show _ ≤ 7291690; omega)) ?_
    refine g_aload_n hC dL_law_1028 2 rfl gRef_r 1029 rfl ?_
    refine g_aload_n hC dL_law_1029 0 rfl gRef_r 1030 rfl ?_
    refine g_iload_n hC dL_law_1030 3 rfl 1031 rfl ?_
    refine g_iconst hC dL_law_1031 ki_1 1032 rfl ?_
    refine g_iadd hC dL_law_1032 1033 rfl ?_
    refine g_topi (y := nI (6 * j + 1)) (nI_a (a := (6 * j)) (b := 1) (c := (6 * j + 1)) (by omega)) ?_
    refine g_scr hC hX hbz (i := 6 * j + 1) (by omega) hL dL_law_1033 1034 rfl ?_
    refine g_aload_n hC dL_law_1034 0 rfl gRef_r 1035 rfl ?_
    refine g_iload_n hC dL_law_1035 3 rfl 1036 rfl ?_
    refine g_iconst hC dL_law_1036 ki_2 1037 rfl ?_
    refine g_iadd hC dL_law_1037 1038 rfl ?_
    refine g_topi (y := nI (6 * j + 2)) (nI_a (a := (6 * j)) (b := 2) (c := (6 * j + 2)) (by omega)) ?_
    refine g_scr hC hX hbz (i := 6 * j + 2) (by omega) hL dL_law_1038 1039 rfl ?_
    refine g_calliP (g_V (As := [.int (xs (6 * j + 1)), .int (xs (6 * j + 2))]) (rest := [.int (-1)]) hC mvX8_receivedLength q3283 (gOf.of hC.K cI7 hM_3) (met_T_receivedLength_n l G M m0 av asp ak aik atx (nI lc) am (nI mc) aa (nI pc_) ato f (xs (6 * j + 1)) (xs (6 * j + 2)) hx hM_3 hM_4) ⟨rfl, rfl⟩ ⟨(Nat.le_of_ble_eq_true rfl), (Nat.le_of_ble_eq_true rfl)⟩ rfl (Nat.le_of_ble_eq_true rfl) dL_law_1039 rfl ⟨(by first | omega | exact Nat.le_of_ble_eq_true rfl | (show _ ≤ 601471; omega) | (show _ ≤ 7291690; omega)), (by first | omega | exact Nat.le_of_ble_eq_true rfl | (show _ ≤ 601471; omega) | (show _ ≤ 7291690; omega))⟩) 1042 rfl (70000 * j + 20000) (by first | omega | exact Nat.le_of_ble_eq_true rfl | (show _ ≤ 601471; omega) | (show _ ≤ 7291690; omega)) ?_
    refine g_icmp_eq hC dL_law_1042 1649 rfl 1045 rfl (fun c_17 => ?_) (fun c_17 => ?_)
    · exact ih M ⟨ta, of, sv, ms, tx, lc, av, asp, ak, aik, atx, am, mc, aa, pc_, ato, t0, t1, f, txf, sp, kf, ik, gm, ga, gt, A, ⟨⟨by omega, by omega⟩, ⟨by omega, by omega⟩, ⟨by omega, by omega⟩, by omega, by omega, by omega, by omega, by omega, by omega⟩, htx, hM_0, hM_1, hM_2, hM_3, hM_4, hM_5, hM_6, hM_7, hM_8, hM_9, hM_10, hM_11, busR.mono hB (by omega), (hS0.mono (by omega)), (hS1.mono (by omega)), hMs⟩
    · exact absurd c_17 (by decide)
