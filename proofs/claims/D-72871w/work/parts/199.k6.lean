/-! the law's cases 33 to 35 -/
set_option maxRecDepth 100000
set_option maxHeartbeats 4000000 in
theorem lwc_33 {nm : String} {p : Program} {l : Launch} {e : Env} {s : State} {m : MethodId} {args : Array Value} {below : List Frame} {meth : Method} {c : Code} {G : gG} {Q : State → Prop} {M : gM} {b L x m0 q j : Nat} {xs : Nat → Int32} (hC : gC p s m args meth c G 4 cL_law "ArbitratedBusLaw" nm (some .boolean)) (hX : va_X b L xs s s.heap) (hbz : b < s.heap.size ∧ b < gz G) (hL : L ≤ 384) (hj : 6 * j + 6 ≤ L) (hqj : q ≤ 1100 * j) (hI : LW M G x m0 q) (ih : ∀ M', LW M' G x m0 (q + 1100) → gJ p l e room_1 s m args below meth c G 4 Q (9200 * (j + 1) + 300) (70000 * (j + 1) + 20000) M' 1649 [(0, .ref b), (1, .ref x), (2, .ref m0), (3, .int (nI (6 * j)))] []) : gJ p l e room_1 s m args below meth c G 4 Q (9200 * j + 300) (70000 * j + 20000) M 1175 [(0, .ref b), (1, .ref x), (2, .ref m0), (3, .int (nI (6 * j)))] [] := by
  obtain ⟨ta, of, sv, ms, tx, lc, av, asp, ak, aik, atx, am, mc, aa, pc_, ato, t0, t1, f, txf, sp, kf, ik, gm, ga, gt, A, ⟨⟨hta2, hta6⟩, ⟨ht02, ht06⟩, ⟨ht12, ht16⟩, ha0, ha1, h01, hlc, hpc, hmc⟩, htx, hM_0, hM_1, hM_2, hM_3, hM_4, hM_5, hM_6, hM_7, hM_8, hM_9, hM_10, hM_11, hB, hS0, hS1, hMs⟩ := hI
  have hokA := busR.ok hB (by omega)
  by_cases hb2 : xs (6 * j + 2) = 0
  · by_cases hf : okF (xs (6 * j + 1)) false (xs (6 * j + 3)) (xs (6 * j + 4))
    · obtain ⟨ln, hln, eln⟩ := ln_n hf.2.1
      rw [eln] at hf
      refine g_aload_n hC dL_law_1175 1 rfl gRef_r 1176 rfl ?_
      refine g_aload_n hC dL_law_1176 0 rfl gRef_r 1177 rfl ?_
      refine g_iload_n hC dL_law_1177 3 rfl 1178 rfl ?_
      refine g_iconst hC dL_law_1178 ki_1 1179 rfl ?_
      refine g_iadd hC dL_law_1179 1180 rfl ?_
      refine g_topi (y := nI (6 * j + 1)) (nI_a (a := (6 * j)) (b := 1) (c := (6 * j + 1)) (by omega)) ?_
      refine g_scr hC hX hbz (i := 6 * j + 1) (by omega) hL dL_law_1180 1181 rfl ?_
      refine g_aload_n hC dL_law_1181 0 rfl gRef_r 1182 rfl ?_
      refine g_iload_n hC dL_law_1182 3 rfl 1183 rfl ?_
      refine g_iconst hC dL_law_1183 ki_2 1184 rfl ?_
      refine g_iadd hC dL_law_1184 1185 rfl ?_
      refine g_topi (y := nI (6 * j + 2)) (nI_a (a := (6 * j)) (b := 2) (c := (6 * j + 2)) (by omega)) ?_
      refine g_scr hC hX hbz (i := 6 * j + 2) (by omega) hL dL_law_1185 1186 rfl ?_
      refine g_if_eq hC dL_law_1186 1193 rfl 1189 rfl (fun c_1 => ?_) (fun c_1 => ?_)
      · refine g_iconst hC dL_law_1193 ki_0 1194 rfl ?_
        refine g_aload_n hC dL_law_1194 0 rfl gRef_r 1195 rfl ?_
        refine g_iload_n hC dL_law_1195 3 rfl 1196 rfl ?_
        refine g_iconst hC dL_law_1196 ki_3 1197 rfl ?_
        refine g_iadd hC dL_law_1197 1198 rfl ?_
        refine g_topi (y := nI (6 * j + 3)) (nI_a (a := (6 * j)) (b := 3) (c := (6 * j + 3)) (by omega)) ?_
        refine g_scr hC hX hbz (i := 6 * j + 3) (by omega) hL dL_law_1198 1199 rfl ?_
        refine g_topi (y := nI ln) eln ?_
        refine g_aload_n hC dL_law_1199 0 rfl gRef_r 1200 rfl ?_
        refine g_iload_n hC dL_law_1200 3 rfl 1201 rfl ?_
        refine g_iconst hC dL_law_1201 ki_4 1202 rfl ?_
        refine g_iadd hC dL_law_1202 1203 rfl ?_
        refine g_topi (y := nI (6 * j + 4)) (nI_a (a := (6 * j)) (b := 4) (c := (6 * j + 4)) (by omega)) ?_
        refine g_scr hC hX hbz (i := 6 * j + 4) (by omega) hL dL_law_1203 1204 rfl ?_
        refine g_st (st' := [.int (xs (6 * j + 4)), .int (nI ln), .int (bI false), .int (xs (6 * j + 1)), .ref x]) rfl ?_
        refine g_calli (g_V (As := [.int (xs (6 * j + 1)), .int (bI false), .int (nI ln), .int (xs (6 * j + 4))]) (rest := []) hC mvX0_crc q2552 (gOf.of hC.K cI0 hM_0) (met_X_crc l G M x ga (xs (6 * j + 1)) false ln (xs (6 * j + 4)) hf hln) ⟨rfl, rfl⟩ ⟨(Nat.le_of_ble_eq_true rfl), (Nat.le_of_ble_eq_true rfl)⟩ rfl (Nat.le_of_ble_eq_true rfl) dL_law_1204 rfl ⟨(by first | omega | exact Nat.le_of_ble_eq_true rfl | (show _ ≤ 601471; omega) | (show _ ≤ 7291690; omega)), (by first | omega | exact Nat.le_of_ble_eq_true rfl | (show _ ≤ 601471; omega) | (show _ ≤ 7291690; omega))⟩) (9200 * j + 300 + 1) (by first | omega | exact Nat.le_of_ble_eq_true rfl | (show _ ≤ 601471; omega) | (show _ ≤ 7291690; omega)) (70000 * j + 20000 + 5) (by first | omega | exact Nat.le_of_ble_eq_true rfl | (show _ ≤ 601471; omega) | (show _ ≤ 7291690; omega)) 1207 rfl (fun r5 M2 k3 hp4 => ?_)
        obtain ⟨rfl, hF6, hk7⟩ := hp4
        refine g_aload_n hC dL_law_1207 2 rfl gRef_r 1208 rfl ?_
        refine g_aload_n hC dL_law_1208 0 rfl gRef_r 1209 rfl ?_
        refine g_iload_n hC dL_law_1209 3 rfl 1210 rfl ?_
        refine g_iconst hC dL_law_1210 ki_1 1211 rfl ?_
        refine g_iadd hC dL_law_1211 1212 rfl ?_
        refine g_topi (y := nI (6 * j + 1)) (nI_a (a := (6 * j)) (b := 1) (c := (6 * j + 1)) (by omega)) ?_
        refine g_scr hC hX hbz (i := 6 * j + 1) (by omega) hL dL_law_1212 1213 rfl ?_
        refine g_aload_n hC dL_law_1213 0 rfl gRef_r 1214 rfl ?_
        refine g_iload_n hC dL_law_1214 3 rfl 1215 rfl ?_
        refine g_iconst hC dL_law_1215 ki_2 1216 rfl ?_
        refine g_iadd hC dL_law_1216 1217 rfl ?_
        refine g_topi (y := nI (6 * j + 2)) (nI_a (a := (6 * j)) (b := 2) (c := (6 * j + 2)) (by omega)) ?_
        refine g_scr hC hX hbz (i := 6 * j + 2) (by omega) hL dL_law_1217 1218 rfl ?_
        refine g_if_eq hC dL_law_1218 1225 rfl 1221 rfl (fun c_8 => ?_) (fun c_8 => ?_)
        · refine g_iconst hC dL_law_1225 ki_0 1226 rfl ?_
          refine g_aload_n hC dL_law_1226 0 rfl gRef_r 1227 rfl ?_
          refine g_iload_n hC dL_law_1227 3 rfl 1228 rfl ?_
          refine g_iconst hC dL_law_1228 ki_3 1229 rfl ?_
          refine g_iadd hC dL_law_1229 1230 rfl ?_
          refine g_topi (y := nI (6 * j + 3)) (nI_a (a := (6 * j)) (b := 3) (c := (6 * j + 3)) (by omega)) ?_
          refine g_scr hC hX hbz (i := 6 * j + 3) (by omega) hL dL_law_1230 1231 rfl ?_
          refine g_topi (y := nI ln) eln ?_
          refine g_aload_n hC dL_law_1231 0 rfl gRef_r 1232 rfl ?_
          refine g_iload_n hC dL_law_1232 3 rfl 1233 rfl ?_
          refine g_iconst hC dL_law_1233 ki_4 1234 rfl ?_
          refine g_iadd hC dL_law_1234 1235 rfl ?_
          refine g_topi (y := nI (6 * j + 4)) (nI_a (a := (6 * j)) (b := 4) (c := (6 * j + 4)) (by omega)) ?_
          refine g_scr hC hX hbz (i := 6 * j + 4) (by omega) hL dL_law_1235 1236 rfl ?_
          refine g_st (st' := [.int (xs (6 * j + 4)), .int (nI ln), .int (bI false), .int (xs (6 * j + 1)), .ref m0, .int (crcT (laysT ga 0 (xs (6 * j + 1)) false ln (xs (6 * j + 4))) 0 (byF false ln + 19))]) rfl ?_
          refine g_calli (g_V (As := [.int (xs (6 * j + 1)), .int (bI false), .int (nI ln), .int (xs (6 * j + 4))]) (rest := [.int (crcT (laysT ga 0 (xs (6 * j + 1)) false ln (xs (6 * j + 4))) 0 (byF false ln + 19))]) hC mvX8_crc q2977 (gOf.of hC.K cI7 (hF6 _ _ _ hM_3 gno0)) (met_T_crc l G M2 m0 av asp ak aik atx (nI lc) am (nI mc) aa (nI pc_) ato ga (xs (6 * j + 1)) false ln (xs (6 * j + 4)) hf hln (hF6 _ _ _ hM_3 gno0) (hF6 _ _ _ hM_10 gno0)) ⟨rfl, rfl⟩ ⟨(Nat.le_of_ble_eq_true rfl), (Nat.le_of_ble_eq_true rfl)⟩ rfl (Nat.le_of_ble_eq_true rfl) dL_law_1236 rfl ⟨(by first | omega | exact Nat.le_of_ble_eq_true rfl | (show _ ≤ 601471; omega) | (show _ ≤ 7291690; omega)), (by first | omega | exact Nat.le_of_ble_eq_true rfl | (show _ ≤ 601471; omega) | (show _ ≤ 7291690; omega))⟩) (9200 * j + 300 + 1) (by first | omega | exact Nat.le_of_ble_eq_true rfl | (show _ ≤ 601471; omega) | (show _ ≤ 7291690; omega)) (70000 * j + 20000 + 5) (by first | omega | exact Nat.le_of_ble_eq_true rfl | (show _ ≤ 601471; omega) | (show _ ≤ 7291690; omega)) 1239 rfl (fun r12 M9 k10 hp11 => ?_)
          obtain ⟨rfl, hc13, hF14, hk15⟩ := hp11
          obtain ⟨F16, eF17⟩ : ∃ z9, z9 = laysT ga 0 (xs (6 * j + 1)) false ln (xs (6 * j + 4)) := ⟨_, rfl⟩
          rw [← eF17] at hc13
          refine g_icmp_eq hC dL_law_1239 1649 rfl 1242 rfl (fun c_18 => ?_) (fun c_18 => ?_)
          · exact ih M9 ⟨ta, of, sv, ms, tx, lc, av, asp, ak, aik, atx, am, mc, aa, pc_, ato, t0, t1, f, txf, sp, kf, ik, gm, F16, gt, A, ⟨⟨by omega, by omega⟩, ⟨by omega, by omega⟩, ⟨by omega, by omega⟩, by omega, by omega, by omega, by omega, by omega, by omega⟩, htx, (hF14 _ _ _ (hF6 _ _ _ hM_0 gno0) (gno (gne_oa (hF6 _ _ _ hM_0 gno0) (hF6 _ _ _ hM_10 gno0)) gno0)), (hF14 _ _ _ (hF6 _ _ _ hM_1 gno0) (gno (gne_t (hF6 _ _ _ hM_1 gno0) (hF6 _ _ _ hM_10 gno0) (by first | assumption | decide | (intro h; simp only [Prod.mk.injEq] at h; omega) | simp | (intro h; simp at h))) gno0)), (hF14 _ _ _ (hF6 _ _ _ hM_2 gno0) (gno (gne_t (hF6 _ _ _ hM_2 gno0) (hF6 _ _ _ hM_10 gno0) (by first | assumption | decide | (intro h; simp only [Prod.mk.injEq] at h; omega) | simp | (intro h; simp at h))) gno0)), (hF14 _ _ _ (hF6 _ _ _ hM_3 gno0) (gno (gne_oa (hF6 _ _ _ hM_3 gno0) (hF6 _ _ _ hM_10 gno0)) gno0)), (hF14 _ _ _ (hF6 _ _ _ hM_4 gno0) (gno (gne_t (hF6 _ _ _ hM_4 gno0) (hF6 _ _ _ hM_10 gno0) (by first | assumption | decide | (intro h; simp only [Prod.mk.injEq] at h; omega) | simp | (intro h; simp at h))) gno0)), (hF14 _ _ _ (hF6 _ _ _ hM_5 gno0) (gno (gne_t (hF6 _ _ _ hM_5 gno0) (hF6 _ _ _ hM_10 gno0) (by first | assumption | decide | (intro h; simp only [Prod.mk.injEq] at h; omega) | simp | (intro h; simp at h))) gno0)), (hF14 _ _ _ (hF6 _ _ _ hM_6 gno0) (gno (gne_t (hF6 _ _ _ hM_6 gno0) (hF6 _ _ _ hM_10 gno0) (by first | assumption | decide | (intro h; simp only [Prod.mk.injEq] at h; omega) | simp | (intro h; simp at h))) gno0)), (hF14 _ _ _ (hF6 _ _ _ hM_7 gno0) (gno (gne_t (hF6 _ _ _ hM_7 gno0) (hF6 _ _ _ hM_10 gno0) (by first | assumption | decide | (intro h; simp only [Prod.mk.injEq] at h; omega) | simp | (intro h; simp at h))) gno0)), (hF14 _ _ _ (hF6 _ _ _ hM_8 gno0) (gno (gne_t (hF6 _ _ _ hM_8 gno0) (hF6 _ _ _ hM_10 gno0) (by first | assumption | decide | (intro h; simp only [Prod.mk.injEq] at h; omega) | simp | (intro h; simp at h))) gno0)), (hF14 _ _ _ (hF6 _ _ _ hM_9 gno0) (gno (gne_t (hF6 _ _ _ hM_9 gno0) (hF6 _ _ _ hM_10 gno0) (by first | assumption | decide | (intro h; simp only [Prod.mk.injEq] at h; omega) | simp | (intro h; simp at h))) gno0)), hc13, (hF14 _ _ _ (hF6 _ _ _ hM_11 gno0) (gno (gne_t (hF6 _ _ _ hM_11 gno0) (hF6 _ _ _ hM_10 gno0) (by first | assumption | decide | (intro h; simp only [Prod.mk.injEq] at h; omega) | simp | (intro h; simp at h))) gno0)), (by try rw [eF17]; exact busR.mono (busR.fr hB ((gFr.refl.trf hF6 (fun b t e hb hn => gno0)).trf hF14 (fun b t e hb hn => (gno (gne_t ((gFr.refl.trf hF6 (fun b t e hb hn => gno0)) b t e hb hn) (hF6 _ _ _ hM_10 gno0) (fun q => hn (by rw [q]; exact (show (fun t => ¬ (fun t => t.1 = ta ∨ tg0 t) t) (1, 7) by (try simp only [ndT, tgE, gT, tgR, ndT9, ndW, tg0, Prod.mk.injEq, true_and, and_true, cpyT, msT]); first | done | omega | (simp; done))))) gno0)))) (by omega)), ((sv1.fr hS0 ((gFr.refl.trf hF6 (fun b t e hb hn => gno0)).trf hF14 (fun b t e hb hn => (gno (gne_t ((gFr.refl.trf hF6 (fun b t e hb hn => gno0)) b t e hb hn) (hF6 _ _ _ hM_10 gno0) (fun q => hn (by rw [q]; exact (show (fun t => ¬ (fun t => t.1 = t0 ∨ tg0 t) t) (1, 7) by (try simp only [ndT, tgE, gT, tgR, ndT9, ndW, tg0, Prod.mk.injEq, true_and, and_true, cpyT, msT]); first | done | omega | (simp; done))))) gno0)))).mono (by omega)), ((sv1.fr hS1 ((gFr.refl.trf hF6 (fun b t e hb hn => gno0)).trf hF14 (fun b t e hb hn => (gno (gne_t ((gFr.refl.trf hF6 (fun b t e hb hn => gno0)) b t e hb hn) (hF6 _ _ _ hM_10 gno0) (fun q => hn (by rw [q]; exact (show (fun t => ¬ (fun t => t.1 = t1 ∨ tg0 t) t) (1, 7) by (try simp only [ndT, tgE, gT, tgR, ndT9, ndW, tg0, Prod.mk.injEq, true_and, and_true, cpyT, msT]); first | done | omega | (simp; done))))) gno0)))).mono (by omega)), (by try rw [eF17]; exact (msR.fr hMs ((gFr.refl.trf hF6 (fun b t e hb hn => gno0)).trf hF14 (fun b t e hb hn => (gno (gne_t ((gFr.refl.trf hF6 (fun b t e hb hn => gno0)) b t e hb hn) (hF6 _ _ _ hM_10 gno0) (fun q => hn (by rw [q]; exact (show (fun t => ¬ msT t) (1, 7) by (try simp only [ndT, tgE, gT, tgR, ndT9, ndW, tg0, Prod.mk.injEq, true_and, and_true, cpyT, msT]); first | done | omega | (simp; done))))) gno0)))))⟩
          · exact absurd rfl c_18
        · exact absurd hb2 c_8
      · exact absurd hb2 c_1
    · refine g_aload_n hC dL_law_1175 1 rfl gRef_r 1176 rfl ?_
      refine g_aload_n hC dL_law_1176 0 rfl gRef_r 1177 rfl ?_
      refine g_iload_n hC dL_law_1177 3 rfl 1178 rfl ?_
      refine g_iconst hC dL_law_1178 ki_1 1179 rfl ?_
      refine g_iadd hC dL_law_1179 1180 rfl ?_
      refine g_topi (y := nI (6 * j + 1)) (nI_a (a := (6 * j)) (b := 1) (c := (6 * j + 1)) (by omega)) ?_
      refine g_scr hC hX hbz (i := 6 * j + 1) (by omega) hL dL_law_1180 1181 rfl ?_
      refine g_aload_n hC dL_law_1181 0 rfl gRef_r 1182 rfl ?_
      refine g_iload_n hC dL_law_1182 3 rfl 1183 rfl ?_
      refine g_iconst hC dL_law_1183 ki_2 1184 rfl ?_
      refine g_iadd hC dL_law_1184 1185 rfl ?_
      refine g_topi (y := nI (6 * j + 2)) (nI_a (a := (6 * j)) (b := 2) (c := (6 * j + 2)) (by omega)) ?_
      refine g_scr hC hX hbz (i := 6 * j + 2) (by omega) hL dL_law_1185 1186 rfl ?_
      refine g_if_eq hC dL_law_1186 1193 rfl 1189 rfl (fun c_19 => ?_) (fun c_19 => ?_)
      · refine g_iconst hC dL_law_1193 ki_0 1194 rfl ?_
        refine g_aload_n hC dL_law_1194 0 rfl gRef_r 1195 rfl ?_
        refine g_iload_n hC dL_law_1195 3 rfl 1196 rfl ?_
        refine g_iconst hC dL_law_1196 ki_3 1197 rfl ?_
        refine g_iadd hC dL_law_1197 1198 rfl ?_
        refine g_topi (y := nI (6 * j + 3)) (nI_a (a := (6 * j)) (b := 3) (c := (6 * j + 3)) (by omega)) ?_
        refine g_scr hC hX hbz (i := 6 * j + 3) (by omega) hL dL_law_1198 1199 rfl ?_
        refine g_aload_n hC dL_law_1199 0 rfl gRef_r 1200 rfl ?_
        refine g_iload_n hC dL_law_1200 3 rfl 1201 rfl ?_
        refine g_iconst hC dL_law_1201 ki_4 1202 rfl ?_
        refine g_iadd hC dL_law_1202 1203 rfl ?_
        refine g_topi (y := nI (6 * j + 4)) (nI_a (a := (6 * j)) (b := 4) (c := (6 * j + 4)) (by omega)) ?_
        refine g_scr hC hX hbz (i := 6 * j + 4) (by omega) hL dL_law_1203 1204 rfl ?_
        refine g_st (st' := [.int (xs (6 * j + 4)), .int (xs (6 * j + 3)), .int (bI false), .int (xs (6 * j + 1)), .ref x]) rfl ?_
        refine g_calliP (g_V (As := [.int (xs (6 * j + 1)), .int (bI false), .int (xs (6 * j + 3)), .int (xs (6 * j + 4))]) (rest := []) hC mvX0_crc q2552 (gOf.of hC.K cI0 hM_0) (met_X_crc_n l G M x (xs (6 * j + 1)) false (xs (6 * j + 3)) (xs (6 * j + 4)) hf) ⟨rfl, rfl⟩ ⟨(Nat.le_of_ble_eq_true rfl), (Nat.le_of_ble_eq_true rfl)⟩ rfl (Nat.le_of_ble_eq_true rfl) dL_law_1204 rfl ⟨(by first | omega | exact Nat.le_of_ble_eq_true rfl | (show _ ≤ 601471; omega) | (show _ ≤ 7291690; omega)), (by first | omega | exact Nat.le_of_ble_eq_true rfl | (show _ ≤ 601471; omega) | (show _ ≤ 7291690; omega))⟩) 1207 rfl (70000 * j + 20000) (by first | omega | exact Nat.le_of_ble_eq_true rfl | (show _ ≤ 601471; omega) | (show _ ≤ 7291690; omega)) ?_
        refine g_aload_n hC dL_law_1207 2 rfl gRef_r 1208 rfl ?_
        refine g_aload_n hC dL_law_1208 0 rfl gRef_r 1209 rfl ?_
        refine g_iload_n hC dL_law_1209 3 rfl 1210 rfl ?_
        refine g_iconst hC dL_law_1210 ki_1 1211 rfl ?_
        refine g_iadd hC dL_law_1211 1212 rfl ?_
        refine g_topi (y := nI (6 * j + 1)) (nI_a (a := (6 * j)) (b := 1) (c := (6 * j + 1)) (by omega)) ?_
        refine g_scr hC hX hbz (i := 6 * j + 1) (by omega) hL dL_law_1212 1213 rfl ?_
        refine g_aload_n hC dL_law_1213 0 rfl gRef_r 1214 rfl ?_
        refine g_iload_n hC dL_law_1214 3 rfl 1215 rfl ?_
        refine g_iconst hC dL_law_1215 ki_2 1216 rfl ?_
        refine g_iadd hC dL_law_1216 1217 rfl ?_
        refine g_topi (y := nI (6 * j + 2)) (nI_a (a := (6 * j)) (b := 2) (c := (6 * j + 2)) (by omega)) ?_
        refine g_scr hC hX hbz (i := 6 * j + 2) (by omega) hL dL_law_1217 1218 rfl ?_
        refine g_if_eq hC dL_law_1218 1225 rfl 1221 rfl (fun c_20 => ?_) (fun c_20 => ?_)
        · refine g_iconst hC dL_law_1225 ki_0 1226 rfl ?_
          refine g_aload_n hC dL_law_1226 0 rfl gRef_r 1227 rfl ?_
          refine g_iload_n hC dL_law_1227 3 rfl 1228 rfl ?_
          refine g_iconst hC dL_law_1228 ki_3 1229 rfl ?_
          refine g_iadd hC dL_law_1229 1230 rfl ?_
          refine g_topi (y := nI (6 * j + 3)) (nI_a (a := (6 * j)) (b := 3) (c := (6 * j + 3)) (by omega)) ?_
          refine g_scr hC hX hbz (i := 6 * j + 3) (by omega) hL dL_law_1230 1231 rfl ?_
          refine g_aload_n hC dL_law_1231 0 rfl gRef_r 1232 rfl ?_
          refine g_iload_n hC dL_law_1232 3 rfl 1233 rfl ?_
          refine g_iconst hC dL_law_1233 ki_4 1234 rfl ?_
          refine g_iadd hC dL_law_1234 1235 rfl ?_
          refine g_topi (y := nI (6 * j + 4)) (nI_a (a := (6 * j)) (b := 4) (c := (6 * j + 4)) (by omega)) ?_
          refine g_scr hC hX hbz (i := 6 * j + 4) (by omega) hL dL_law_1235 1236 rfl ?_
          refine g_st (st' := [.int (xs (6 * j + 4)), .int (xs (6 * j + 3)), .int (bI false), .int (xs (6 * j + 1)), .ref m0, .int (-2)]) rfl ?_
          refine g_calliP (g_V (As := [.int (xs (6 * j + 1)), .int (bI false), .int (xs (6 * j + 3)), .int (xs (6 * j + 4))]) (rest := [.int (-2)]) hC mvX8_crc q2977 (gOf.of hC.K cI7 hM_3) (met_T_crc_n l G M m0 av asp ak aik atx (nI lc) am (nI mc) aa (nI pc_) ato ga (xs (6 * j + 1)) false (xs (6 * j + 3)) (xs (6 * j + 4)) hf hM_3 hM_10) ⟨rfl, rfl⟩ ⟨(Nat.le_of_ble_eq_true rfl), (Nat.le_of_ble_eq_true rfl)⟩ rfl (Nat.le_of_ble_eq_true rfl) dL_law_1236 rfl ⟨(by first | omega | exact Nat.le_of_ble_eq_true rfl | (show _ ≤ 601471; omega) | (show _ ≤ 7291690; omega)), (by first | omega | exact Nat.le_of_ble_eq_true rfl | (show _ ≤ 601471; omega) | (show _ ≤ 7291690; omega))⟩) 1239 rfl (70000 * j + 20000) (by first | omega | exact Nat.le_of_ble_eq_true rfl | (show _ ≤ 601471; omega) | (show _ ≤ 7291690; omega)) ?_
          refine g_icmp_eq hC dL_law_1239 1649 rfl 1242 rfl (fun c_21 => ?_) (fun c_21 => ?_)
          · exact ih M ⟨ta, of, sv, ms, tx, lc, av, asp, ak, aik, atx, am, mc, aa, pc_, ato, t0, t1, f, txf, sp, kf, ik, gm, ga, gt, A, ⟨⟨by omega, by omega⟩, ⟨by omega, by omega⟩, ⟨by omega, by omega⟩, by omega, by omega, by omega, by omega, by omega, by omega⟩, htx, hM_0, hM_1, hM_2, hM_3, hM_4, hM_5, hM_6, hM_7, hM_8, hM_9, hM_10, hM_11, busR.mono hB (by omega), (hS0.mono (by omega)), (hS1.mono (by omega)), hMs⟩
          · exact absurd c_21 (by decide)
        · exact absurd hb2 c_20
      · exact absurd hb2 c_19
  · by_cases hf : okF (xs (6 * j + 1)) true (xs (6 * j + 3)) (xs (6 * j + 4))
    · obtain ⟨ln, hln, eln⟩ := ln_n hf.2.1
      rw [eln] at hf
      refine g_aload_n hC dL_law_1175 1 rfl gRef_r 1176 rfl ?_
      refine g_aload_n hC dL_law_1176 0 rfl gRef_r 1177 rfl ?_
      refine g_iload_n hC dL_law_1177 3 rfl 1178 rfl ?_
      refine g_iconst hC dL_law_1178 ki_1 1179 rfl ?_
      refine g_iadd hC dL_law_1179 1180 rfl ?_
      refine g_topi (y := nI (6 * j + 1)) (nI_a (a := (6 * j)) (b := 1) (c := (6 * j + 1)) (by omega)) ?_
      refine g_scr hC hX hbz (i := 6 * j + 1) (by omega) hL dL_law_1180 1181 rfl ?_
      refine g_aload_n hC dL_law_1181 0 rfl gRef_r 1182 rfl ?_
      refine g_iload_n hC dL_law_1182 3 rfl 1183 rfl ?_
      refine g_iconst hC dL_law_1183 ki_2 1184 rfl ?_
      refine g_iadd hC dL_law_1184 1185 rfl ?_
      refine g_topi (y := nI (6 * j + 2)) (nI_a (a := (6 * j)) (b := 2) (c := (6 * j + 2)) (by omega)) ?_
      refine g_scr hC hX hbz (i := 6 * j + 2) (by omega) hL dL_law_1185 1186 rfl ?_
      refine g_if_eq hC dL_law_1186 1193 rfl 1189 rfl (fun c_22 => ?_) (fun c_22 => ?_)
      · exact absurd c_22 hb2
      · refine g_iconst hC dL_law_1189 ki_1 1190 rfl ?_
        refine g_goto hC dL_law_1190 1194 rfl ?_
        refine g_aload_n hC dL_law_1194 0 rfl gRef_r 1195 rfl ?_
        refine g_iload_n hC dL_law_1195 3 rfl 1196 rfl ?_
        refine g_iconst hC dL_law_1196 ki_3 1197 rfl ?_
        refine g_iadd hC dL_law_1197 1198 rfl ?_
        refine g_topi (y := nI (6 * j + 3)) (nI_a (a := (6 * j)) (b := 3) (c := (6 * j + 3)) (by omega)) ?_
        refine g_scr hC hX hbz (i := 6 * j + 3) (by omega) hL dL_law_1198 1199 rfl ?_
        refine g_topi (y := nI ln) eln ?_
        refine g_aload_n hC dL_law_1199 0 rfl gRef_r 1200 rfl ?_
        refine g_iload_n hC dL_law_1200 3 rfl 1201 rfl ?_
        refine g_iconst hC dL_law_1201 ki_4 1202 rfl ?_
        refine g_iadd hC dL_law_1202 1203 rfl ?_
        refine g_topi (y := nI (6 * j + 4)) (nI_a (a := (6 * j)) (b := 4) (c := (6 * j + 4)) (by omega)) ?_
        refine g_scr hC hX hbz (i := 6 * j + 4) (by omega) hL dL_law_1203 1204 rfl ?_
        refine g_st (st' := [.int (xs (6 * j + 4)), .int (nI ln), .int (bI true), .int (xs (6 * j + 1)), .ref x]) rfl ?_
        refine g_calli (g_V (As := [.int (xs (6 * j + 1)), .int (bI true), .int (nI ln), .int (xs (6 * j + 4))]) (rest := []) hC mvX0_crc q2552 (gOf.of hC.K cI0 hM_0) (met_X_crc l G M x ga (xs (6 * j + 1)) true ln (xs (6 * j + 4)) hf hln) ⟨rfl, rfl⟩ ⟨(Nat.le_of_ble_eq_true rfl), (Nat.le_of_ble_eq_true rfl)⟩ rfl (Nat.le_of_ble_eq_true rfl) dL_law_1204 rfl ⟨(by first | omega | exact Nat.le_of_ble_eq_true rfl | (show _ ≤ 601471; omega) | (show _ ≤ 7291690; omega)), (by first | omega | exact Nat.le_of_ble_eq_true rfl | (show _ ≤ 601471; omega) | (show _ ≤ 7291690; omega))⟩) (9200 * j + 300 + 1) (by first | omega | exact Nat.le_of_ble_eq_true rfl | (show _ ≤ 601471; omega) | (show _ ≤ 7291690; omega)) (70000 * j + 20000 + 5) (by first | omega | exact Nat.le_of_ble_eq_true rfl | (show _ ≤ 601471; omega) | (show _ ≤ 7291690; omega)) 1207 rfl (fun r26 M23 k24 hp25 => ?_)
        obtain ⟨rfl, hF27, hk28⟩ := hp25
        refine g_aload_n hC dL_law_1207 2 rfl gRef_r 1208 rfl ?_
        refine g_aload_n hC dL_law_1208 0 rfl gRef_r 1209 rfl ?_
        refine g_iload_n hC dL_law_1209 3 rfl 1210 rfl ?_
        refine g_iconst hC dL_law_1210 ki_1 1211 rfl ?_
        refine g_iadd hC dL_law_1211 1212 rfl ?_
        refine g_topi (y := nI (6 * j + 1)) (nI_a (a := (6 * j)) (b := 1) (c := (6 * j + 1)) (by omega)) ?_
        refine g_scr hC hX hbz (i := 6 * j + 1) (by omega) hL dL_law_1212 1213 rfl ?_
        refine g_aload_n hC dL_law_1213 0 rfl gRef_r 1214 rfl ?_
        refine g_iload_n hC dL_law_1214 3 rfl 1215 rfl ?_
        refine g_iconst hC dL_law_1215 ki_2 1216 rfl ?_
        refine g_iadd hC dL_law_1216 1217 rfl ?_
        refine g_topi (y := nI (6 * j + 2)) (nI_a (a := (6 * j)) (b := 2) (c := (6 * j + 2)) (by omega)) ?_
        refine g_scr hC hX hbz (i := 6 * j + 2) (by omega) hL dL_law_1217 1218 rfl ?_
        refine g_if_eq hC dL_law_1218 1225 rfl 1221 rfl (fun c_29 => ?_) (fun c_29 => ?_)
        · exact absurd c_29 hb2
        · refine g_iconst hC dL_law_1221 ki_1 1222 rfl ?_
          refine g_goto hC dL_law_1222 1226 rfl ?_
          refine g_aload_n hC dL_law_1226 0 rfl gRef_r 1227 rfl ?_
          refine g_iload_n hC dL_law_1227 3 rfl 1228 rfl ?_
          refine g_iconst hC dL_law_1228 ki_3 1229 rfl ?_
          refine g_iadd hC dL_law_1229 1230 rfl ?_
          refine g_topi (y := nI (6 * j + 3)) (nI_a (a := (6 * j)) (b := 3) (c := (6 * j + 3)) (by omega)) ?_
          refine g_scr hC hX hbz (i := 6 * j + 3) (by omega) hL dL_law_1230 1231 rfl ?_
          refine g_topi (y := nI ln) eln ?_
          refine g_aload_n hC dL_law_1231 0 rfl gRef_r 1232 rfl ?_
          refine g_iload_n hC dL_law_1232 3 rfl 1233 rfl ?_
          refine g_iconst hC dL_law_1233 ki_4 1234 rfl ?_
          refine g_iadd hC dL_law_1234 1235 rfl ?_
          refine g_topi (y := nI (6 * j + 4)) (nI_a (a := (6 * j)) (b := 4) (c := (6 * j + 4)) (by omega)) ?_
          refine g_scr hC hX hbz (i := 6 * j + 4) (by omega) hL dL_law_1235 1236 rfl ?_
          refine g_st (st' := [.int (xs (6 * j + 4)), .int (nI ln), .int (bI true), .int (xs (6 * j + 1)), .ref m0, .int (crcT (laysT ga 0 (xs (6 * j + 1)) true ln (xs (6 * j + 4))) 0 (byF true ln + 19))]) rfl ?_
          refine g_calli (g_V (As := [.int (xs (6 * j + 1)), .int (bI true), .int (nI ln), .int (xs (6 * j + 4))]) (rest := [.int (crcT (laysT ga 0 (xs (6 * j + 1)) true ln (xs (6 * j + 4))) 0 (byF true ln + 19))]) hC mvX8_crc q2977 (gOf.of hC.K cI7 (hF27 _ _ _ hM_3 gno0)) (met_T_crc l G M23 m0 av asp ak aik atx (nI lc) am (nI mc) aa (nI pc_) ato ga (xs (6 * j + 1)) true ln (xs (6 * j + 4)) hf hln (hF27 _ _ _ hM_3 gno0) (hF27 _ _ _ hM_10 gno0)) ⟨rfl, rfl⟩ ⟨(Nat.le_of_ble_eq_true rfl), (Nat.le_of_ble_eq_true rfl)⟩ rfl (Nat.le_of_ble_eq_true rfl) dL_law_1236 rfl ⟨(by first | omega | exact Nat.le_of_ble_eq_true rfl | (show _ ≤ 601471; omega) | (show _ ≤ 7291690; omega)), (by first | omega | exact Nat.le_of_ble_eq_true rfl | (show _ ≤ 601471; omega) | (show _ ≤ 7291690; omega))⟩) (9200 * j + 300 + 1) (by first | omega | exact Nat.le_of_ble_eq_true rfl | (show _ ≤ 601471; omega) | (show _ ≤ 7291690; omega)) (70000 * j + 20000 + 5) (by first | omega | exact Nat.le_of_ble_eq_true rfl | (show _ ≤ 601471; omega) | (show _ ≤ 7291690; omega)) 1239 rfl (fun r33 M30 k31 hp32 => ?_)
          obtain ⟨rfl, hc34, hF35, hk36⟩ := hp32
          obtain ⟨F37, eF38⟩ : ∃ z9, z9 = laysT ga 0 (xs (6 * j + 1)) true ln (xs (6 * j + 4)) := ⟨_, rfl⟩
          rw [← eF38] at hc34
          refine g_icmp_eq hC dL_law_1239 1649 rfl 1242 rfl (fun c_39 => ?_) (fun c_39 => ?_)
          · exact ih M30 ⟨ta, of, sv, ms, tx, lc, av, asp, ak, aik, atx, am, mc, aa, pc_, ato, t0, t1, f, txf, sp, kf, ik, gm, F37, gt, A, ⟨⟨by omega, by omega⟩, ⟨by omega, by omega⟩, ⟨by omega, by omega⟩, by omega, by omega, by omega, by omega, by omega, by omega⟩, htx, (hF35 _ _ _ (hF27 _ _ _ hM_0 gno0) (gno (gne_oa (hF27 _ _ _ hM_0 gno0) (hF27 _ _ _ hM_10 gno0)) gno0)), (hF35 _ _ _ (hF27 _ _ _ hM_1 gno0) (gno (gne_t (hF27 _ _ _ hM_1 gno0) (hF27 _ _ _ hM_10 gno0) (by first | assumption | decide | (intro h; simp only [Prod.mk.injEq] at h; omega) | simp | (intro h; simp at h))) gno0)), (hF35 _ _ _ (hF27 _ _ _ hM_2 gno0) (gno (gne_t (hF27 _ _ _ hM_2 gno0) (hF27 _ _ _ hM_10 gno0) (by first | assumption | decide | (intro h; simp only [Prod.mk.injEq] at h; omega) | simp | (intro h; simp at h))) gno0)), (hF35 _ _ _ (hF27 _ _ _ hM_3 gno0) (gno (gne_oa (hF27 _ _ _ hM_3 gno0) (hF27 _ _ _ hM_10 gno0)) gno0)), (hF35 _ _ _ (hF27 _ _ _ hM_4 gno0) (gno (gne_t (hF27 _ _ _ hM_4 gno0) (hF27 _ _ _ hM_10 gno0) (by first | assumption | decide | (intro h; simp only [Prod.mk.injEq] at h; omega) | simp | (intro h; simp at h))) gno0)), (hF35 _ _ _ (hF27 _ _ _ hM_5 gno0) (gno (gne_t (hF27 _ _ _ hM_5 gno0) (hF27 _ _ _ hM_10 gno0) (by first | assumption | decide | (intro h; simp only [Prod.mk.injEq] at h; omega) | simp | (intro h; simp at h))) gno0)), (hF35 _ _ _ (hF27 _ _ _ hM_6 gno0) (gno (gne_t (hF27 _ _ _ hM_6 gno0) (hF27 _ _ _ hM_10 gno0) (by first | assumption | decide | (intro h; simp only [Prod.mk.injEq] at h; omega) | simp | (intro h; simp at h))) gno0)), (hF35 _ _ _ (hF27 _ _ _ hM_7 gno0) (gno (gne_t (hF27 _ _ _ hM_7 gno0) (hF27 _ _ _ hM_10 gno0) (by first | assumption | decide | (intro h; simp only [Prod.mk.injEq] at h; omega) | simp | (intro h; simp at h))) gno0)), (hF35 _ _ _ (hF27 _ _ _ hM_8 gno0) (gno (gne_t (hF27 _ _ _ hM_8 gno0) (hF27 _ _ _ hM_10 gno0) (by first | assumption | decide | (intro h; simp only [Prod.mk.injEq] at h; omega) | simp | (intro h; simp at h))) gno0)), (hF35 _ _ _ (hF27 _ _ _ hM_9 gno0) (gno (gne_t (hF27 _ _ _ hM_9 gno0) (hF27 _ _ _ hM_10 gno0) (by first | assumption | decide | (intro h; simp only [Prod.mk.injEq] at h; omega) | simp | (intro h; simp at h))) gno0)), hc34, (hF35 _ _ _ (hF27 _ _ _ hM_11 gno0) (gno (gne_t (hF27 _ _ _ hM_11 gno0) (hF27 _ _ _ hM_10 gno0) (by first | assumption | decide | (intro h; simp only [Prod.mk.injEq] at h; omega) | simp | (intro h; simp at h))) gno0)), (by try rw [eF38]; exact busR.mono (busR.fr hB ((gFr.refl.trf hF27 (fun b t e hb hn => gno0)).trf hF35 (fun b t e hb hn => (gno (gne_t ((gFr.refl.trf hF27 (fun b t e hb hn => gno0)) b t e hb hn) (hF27 _ _ _ hM_10 gno0) (fun q => hn (by rw [q]; exact (show (fun t => ¬ (fun t => t.1 = ta ∨ tg0 t) t) (1, 7) by (try simp only [ndT, tgE, gT, tgR, ndT9, ndW, tg0, Prod.mk.injEq, true_and, and_true, cpyT, msT]); first | done | omega | (simp; done))))) gno0)))) (by omega)), ((sv1.fr hS0 ((gFr.refl.trf hF27 (fun b t e hb hn => gno0)).trf hF35 (fun b t e hb hn => (gno (gne_t ((gFr.refl.trf hF27 (fun b t e hb hn => gno0)) b t e hb hn) (hF27 _ _ _ hM_10 gno0) (fun q => hn (by rw [q]; exact (show (fun t => ¬ (fun t => t.1 = t0 ∨ tg0 t) t) (1, 7) by (try simp only [ndT, tgE, gT, tgR, ndT9, ndW, tg0, Prod.mk.injEq, true_and, and_true, cpyT, msT]); first | done | omega | (simp; done))))) gno0)))).mono (by omega)), ((sv1.fr hS1 ((gFr.refl.trf hF27 (fun b t e hb hn => gno0)).trf hF35 (fun b t e hb hn => (gno (gne_t ((gFr.refl.trf hF27 (fun b t e hb hn => gno0)) b t e hb hn) (hF27 _ _ _ hM_10 gno0) (fun q => hn (by rw [q]; exact (show (fun t => ¬ (fun t => t.1 = t1 ∨ tg0 t) t) (1, 7) by (try simp only [ndT, tgE, gT, tgR, ndT9, ndW, tg0, Prod.mk.injEq, true_and, and_true, cpyT, msT]); first | done | omega | (simp; done))))) gno0)))).mono (by omega)), (by try rw [eF38]; exact (msR.fr hMs ((gFr.refl.trf hF27 (fun b t e hb hn => gno0)).trf hF35 (fun b t e hb hn => (gno (gne_t ((gFr.refl.trf hF27 (fun b t e hb hn => gno0)) b t e hb hn) (hF27 _ _ _ hM_10 gno0) (fun q => hn (by rw [q]; exact (show (fun t => ¬ msT t) (1, 7) by (try simp only [ndT, tgE, gT, tgR, ndT9, ndW, tg0, Prod.mk.injEq, true_and, and_true, cpyT, msT]); first | done | omega | (simp; done))))) gno0)))))⟩
          · exact absurd rfl c_39
    · refine g_aload_n hC dL_law_1175 1 rfl gRef_r 1176 rfl ?_
      refine g_aload_n hC dL_law_1176 0 rfl gRef_r 1177 rfl ?_
      refine g_iload_n hC dL_law_1177 3 rfl 1178 rfl ?_
      refine g_iconst hC dL_law_1178 ki_1 1179 rfl ?_
      refine g_iadd hC dL_law_1179 1180 rfl ?_
      refine g_topi (y := nI (6 * j + 1)) (nI_a (a := (6 * j)) (b := 1) (c := (6 * j + 1)) (by omega)) ?_
      refine g_scr hC hX hbz (i := 6 * j + 1) (by omega) hL dL_law_1180 1181 rfl ?_
      refine g_aload_n hC dL_law_1181 0 rfl gRef_r 1182 rfl ?_
      refine g_iload_n hC dL_law_1182 3 rfl 1183 rfl ?_
      refine g_iconst hC dL_law_1183 ki_2 1184 rfl ?_
      refine g_iadd hC dL_law_1184 1185 rfl ?_
      refine g_topi (y := nI (6 * j + 2)) (nI_a (a := (6 * j)) (b := 2) (c := (6 * j + 2)) (by omega)) ?_
      refine g_scr hC hX hbz (i := 6 * j + 2) (by omega) hL dL_law_1185 1186 rfl ?_
      refine g_if_eq hC dL_law_1186 1193 rfl 1189 rfl (fun c_40 => ?_) (fun c_40 => ?_)
      · exact absurd c_40 hb2
      · refine g_iconst hC dL_law_1189 ki_1 1190 rfl ?_
        refine g_goto hC dL_law_1190 1194 rfl ?_
        refine g_aload_n hC dL_law_1194 0 rfl gRef_r 1195 rfl ?_
        refine g_iload_n hC dL_law_1195 3 rfl 1196 rfl ?_
        refine g_iconst hC dL_law_1196 ki_3 1197 rfl ?_
        refine g_iadd hC dL_law_1197 1198 rfl ?_
        refine g_topi (y := nI (6 * j + 3)) (nI_a (a := (6 * j)) (b := 3) (c := (6 * j + 3)) (by omega)) ?_
        refine g_scr hC hX hbz (i := 6 * j + 3) (by omega) hL dL_law_1198 1199 rfl ?_
        refine g_aload_n hC dL_law_1199 0 rfl gRef_r 1200 rfl ?_
        refine g_iload_n hC dL_law_1200 3 rfl 1201 rfl ?_
        refine g_iconst hC dL_law_1201 ki_4 1202 rfl ?_
        refine g_iadd hC dL_law_1202 1203 rfl ?_
        refine g_topi (y := nI (6 * j + 4)) (nI_a (a := (6 * j)) (b := 4) (c := (6 * j + 4)) (by omega)) ?_
        refine g_scr hC hX hbz (i := 6 * j + 4) (by omega) hL dL_law_1203 1204 rfl ?_
        refine g_st (st' := [.int (xs (6 * j + 4)), .int (xs (6 * j + 3)), .int (bI true), .int (xs (6 * j + 1)), .ref x]) rfl ?_
        refine g_calliP (g_V (As := [.int (xs (6 * j + 1)), .int (bI true), .int (xs (6 * j + 3)), .int (xs (6 * j + 4))]) (rest := []) hC mvX0_crc q2552 (gOf.of hC.K cI0 hM_0) (met_X_crc_n l G M x (xs (6 * j + 1)) true (xs (6 * j + 3)) (xs (6 * j + 4)) hf) ⟨rfl, rfl⟩ ⟨(Nat.le_of_ble_eq_true rfl), (Nat.le_of_ble_eq_true rfl)⟩ rfl (Nat.le_of_ble_eq_true rfl) dL_law_1204 rfl ⟨(by first | omega | exact Nat.le_of_ble_eq_true rfl | (show _ ≤ 601471; omega) | (show _ ≤ 7291690; omega)), (by first | omega | exact Nat.le_of_ble_eq_true rfl | (show _ ≤ 601471; omega) | (show _ ≤ 7291690; omega))⟩) 1207 rfl (70000 * j + 20000) (by first | omega | exact Nat.le_of_ble_eq_true rfl | (show _ ≤ 601471; omega) | (show _ ≤ 7291690; omega)) ?_
        refine g_aload_n hC dL_law_1207 2 rfl gRef_r 1208 rfl ?_
        refine g_aload_n hC dL_law_1208 0 rfl gRef_r 1209 rfl ?_
        refine g_iload_n hC dL_law_1209 3 rfl 1210 rfl ?_
        refine g_iconst hC dL_law_1210 ki_1 1211 rfl ?_
        refine g_iadd hC dL_law_1211 1212 rfl ?_
        refine g_topi (y := nI (6 * j + 1)) (nI_a (a := (6 * j)) (b := 1) (c := (6 * j + 1)) (by omega)) ?_
        refine g_scr hC hX hbz (i := 6 * j + 1) (by omega) hL dL_law_1212 1213 rfl ?_
        refine g_aload_n hC dL_law_1213 0 rfl gRef_r 1214 rfl ?_
        refine g_iload_n hC dL_law_1214 3 rfl 1215 rfl ?_
        refine g_iconst hC dL_law_1215 ki_2 1216 rfl ?_
        refine g_iadd hC dL_law_1216 1217 rfl ?_
        refine g_topi (y := nI (6 * j + 2)) (nI_a (a := (6 * j)) (b := 2) (c := (6 * j + 2)) (by omega)) ?_
        refine g_scr hC hX hbz (i := 6 * j + 2) (by omega) hL dL_law_1217 1218 rfl ?_
        refine g_if_eq hC dL_law_1218 1225 rfl 1221 rfl (fun c_41 => ?_) (fun c_41 => ?_)
        · exact absurd c_41 hb2
        · refine g_iconst hC dL_law_1221 ki_1 1222 rfl ?_
          refine g_goto hC dL_law_1222 1226 rfl ?_
          refine g_aload_n hC dL_law_1226 0 rfl gRef_r 1227 rfl ?_
          refine g_iload_n hC dL_law_1227 3 rfl 1228 rfl ?_
          refine g_iconst hC dL_law_1228 ki_3 1229 rfl ?_
          refine g_iadd hC dL_law_1229 1230 rfl ?_
          refine g_topi (y := nI (6 * j + 3)) (nI_a (a := (6 * j)) (b := 3) (c := (6 * j + 3)) (by omega)) ?_
          refine g_scr hC hX hbz (i := 6 * j + 3) (by omega) hL dL_law_1230 1231 rfl ?_
          refine g_aload_n hC dL_law_1231 0 rfl gRef_r 1232 rfl ?_
          refine g_iload_n hC dL_law_1232 3 rfl 1233 rfl ?_
          refine g_iconst hC dL_law_1233 ki_4 1234 rfl ?_
          refine g_iadd hC dL_law_1234 1235 rfl ?_
          refine g_topi (y := nI (6 * j + 4)) (nI_a (a := (6 * j)) (b := 4) (c := (6 * j + 4)) (by omega)) ?_
          refine g_scr hC hX hbz (i := 6 * j + 4) (by omega) hL dL_law_1235 1236 rfl ?_
          refine g_st (st' := [.int (xs (6 * j + 4)), .int (xs (6 * j + 3)), .int (bI true), .int (xs (6 * j + 1)), .ref m0, .int (-2)]) rfl ?_
          refine g_calliP (g_V (As := [.int (xs (6 * j + 1)), .int (bI true), .int (xs (6 * j + 3)), .int (xs (6 * j + 4))]) (rest := [.int (-2)]) hC mvX8_crc q2977 (gOf.of hC.K cI7 hM_3) (met_T_crc_n l G M m0 av asp ak aik atx (nI lc) am (nI mc) aa (nI pc_) ato ga (xs (6 * j + 1)) true (xs (6 * j + 3)) (xs (6 * j + 4)) hf hM_3 hM_10) ⟨rfl, rfl⟩ ⟨(Nat.le_of_ble_eq_true rfl), (Nat.le_of_ble_eq_true rfl)⟩ rfl (Nat.le_of_ble_eq_true rfl) dL_law_1236 rfl ⟨(by first | omega | exact Nat.le_of_ble_eq_true rfl | (show _ ≤ 601471; omega) | (show _ ≤ 7291690; omega)), (by first | omega | exact Nat.le_of_ble_eq_true rfl | (show _ ≤ 601471; omega) | (show _ ≤ 7291690; omega))⟩) 1239 rfl (70000 * j + 20000) (by first | omega | exact Nat.le_of_ble_eq_true rfl | (show _ ≤ 601471; omega) | (show _ ≤ 7291690; omega)) ?_
          refine g_icmp_eq hC dL_law_1239 1649 rfl 1242 rfl (fun c_42 => ?_) (fun c_42 => ?_)
          · exact ih M ⟨ta, of, sv, ms, tx, lc, av, asp, ak, aik, atx, am, mc, aa, pc_, ato, t0, t1, f, txf, sp, kf, ik, gm, ga, gt, A, ⟨⟨by omega, by omega⟩, ⟨by omega, by omega⟩, ⟨by omega, by omega⟩, by omega, by omega, by omega, by omega, by omega, by omega⟩, htx, hM_0, hM_1, hM_2, hM_3, hM_4, hM_5, hM_6, hM_7, hM_8, hM_9, hM_10, hM_11, busR.mono hB (by omega), (hS0.mono (by omega)), (hS1.mono (by omega)), hMs⟩
          · exact absurd c_42 (by decide)
set_option maxHeartbeats 4000000 in
theorem lwc_34 {nm : String} {p : Program} {l : Launch} {e : Env} {s : State} {m : MethodId} {args : Array Value} {below : List Frame} {meth : Method} {c : Code} {G : gG} {Q : State → Prop} {M : gM} {b L x m0 q j : Nat} {xs : Nat → Int32} (hC : gC p s m args meth c G 4 cL_law "ArbitratedBusLaw" nm (some .boolean)) (hX : va_X b L xs s s.heap) (hbz : b < s.heap.size ∧ b < gz G) (hL : L ≤ 384) (hj : 6 * j + 6 ≤ L) (hqj : q ≤ 1100 * j) (hI : LW M G x m0 q) (ih : ∀ M', LW M' G x m0 (q + 1100) → gJ p l e room_1 s m args below meth c G 4 Q (9200 * (j + 1) + 300) (70000 * (j + 1) + 20000) M' 1649 [(0, .ref b), (1, .ref x), (2, .ref m0), (3, .int (nI (6 * j)))] []) : gJ p l e room_1 s m args below meth c G 4 Q (9200 * j + 300) (70000 * j + 20000) M 1244 [(0, .ref b), (1, .ref x), (2, .ref m0), (3, .int (nI (6 * j)))] [] := by
  obtain ⟨ta, of, sv, ms, tx, lc, av, asp, ak, aik, atx, am, mc, aa, pc_, ato, t0, t1, f, txf, sp, kf, ik, gm, ga, gt, A, ⟨⟨hta2, hta6⟩, ⟨ht02, ht06⟩, ⟨ht12, ht16⟩, ha0, ha1, h01, hlc, hpc, hmc⟩, htx, hM_0, hM_1, hM_2, hM_3, hM_4, hM_5, hM_6, hM_7, hM_8, hM_9, hM_10, hM_11, hB, hS0, hS1, hMs⟩ := hI
  have hokA := busR.ok hB (by omega)
  by_cases hb2 : xs (6 * j + 2) = 0
  · by_cases hf : okF (xs (6 * j + 1)) false (xs (6 * j + 3)) (xs (6 * j + 4))
    · obtain ⟨ln, hln, eln⟩ := ln_n hf.2.1
      rw [eln] at hf
      refine g_aload_n hC dL_law_1244 1 rfl gRef_r 1245 rfl ?_
      refine g_aload_n hC dL_law_1245 0 rfl gRef_r 1246 rfl ?_
      refine g_iload_n hC dL_law_1246 3 rfl 1247 rfl ?_
      refine g_iconst hC dL_law_1247 ki_1 1248 rfl ?_
      refine g_iadd hC dL_law_1248 1249 rfl ?_
      refine g_topi (y := nI (6 * j + 1)) (nI_a (a := (6 * j)) (b := 1) (c := (6 * j + 1)) (by omega)) ?_
      refine g_scr hC hX hbz (i := 6 * j + 1) (by omega) hL dL_law_1249 1250 rfl ?_
      refine g_aload_n hC dL_law_1250 0 rfl gRef_r 1251 rfl ?_
      refine g_iload_n hC dL_law_1251 3 rfl 1252 rfl ?_
      refine g_iconst hC dL_law_1252 ki_2 1253 rfl ?_
      refine g_iadd hC dL_law_1253 1254 rfl ?_
      refine g_topi (y := nI (6 * j + 2)) (nI_a (a := (6 * j)) (b := 2) (c := (6 * j + 2)) (by omega)) ?_
      refine g_scr hC hX hbz (i := 6 * j + 2) (by omega) hL dL_law_1254 1255 rfl ?_
      refine g_if_eq hC dL_law_1255 1262 rfl 1258 rfl (fun c_1 => ?_) (fun c_1 => ?_)
      · refine g_iconst hC dL_law_1262 ki_0 1263 rfl ?_
        refine g_aload_n hC dL_law_1263 0 rfl gRef_r 1264 rfl ?_
        refine g_iload_n hC dL_law_1264 3 rfl 1265 rfl ?_
        refine g_iconst hC dL_law_1265 ki_3 1266 rfl ?_
        refine g_iadd hC dL_law_1266 1267 rfl ?_
        refine g_topi (y := nI (6 * j + 3)) (nI_a (a := (6 * j)) (b := 3) (c := (6 * j + 3)) (by omega)) ?_
        refine g_scr hC hX hbz (i := 6 * j + 3) (by omega) hL dL_law_1267 1268 rfl ?_
        refine g_topi (y := nI ln) eln ?_
        refine g_aload_n hC dL_law_1268 0 rfl gRef_r 1269 rfl ?_
        refine g_iload_n hC dL_law_1269 3 rfl 1270 rfl ?_
        refine g_iconst hC dL_law_1270 ki_4 1271 rfl ?_
        refine g_iadd hC dL_law_1271 1272 rfl ?_
        refine g_topi (y := nI (6 * j + 4)) (nI_a (a := (6 * j)) (b := 4) (c := (6 * j + 4)) (by omega)) ?_
        refine g_scr hC hX hbz (i := 6 * j + 4) (by omega) hL dL_law_1272 1273 rfl ?_
        refine g_st (st' := [.int (xs (6 * j + 4)), .int (nI ln), .int (bI false), .int (xs (6 * j + 1)), .ref x]) rfl ?_
        refine g_calli (g_V (As := [.int (xs (6 * j + 1)), .int (bI false), .int (nI ln), .int (xs (6 * j + 4))]) (rest := []) hC mvX0_frameBits q2559 (gOf.of hC.K cI0 hM_0) (met_X_frameBits l G M x ga (xs (6 * j + 1)) false ln (xs (6 * j + 4)) hf hln) ⟨rfl, rfl⟩ ⟨(Nat.le_of_ble_eq_true rfl), (Nat.le_of_ble_eq_true rfl)⟩ rfl (Nat.le_of_ble_eq_true rfl) dL_law_1273 rfl ⟨(by first | omega | exact Nat.le_of_ble_eq_true rfl | (show _ ≤ 601471; omega) | (show _ ≤ 7291690; omega)), (by first | omega | exact Nat.le_of_ble_eq_true rfl | (show _ ≤ 601471; omega) | (show _ ≤ 7291690; omega))⟩) (9200 * j + 300 + 222) (by first | omega | exact Nat.le_of_ble_eq_true rfl | (show _ ≤ 601471; omega) | (show _ ≤ 7291690; omega)) (70000 * j + 20000 + 506) (by first | omega | exact Nat.le_of_ble_eq_true rfl | (show _ ≤ 601471; omega) | (show _ ≤ 7291690; omega)) 1276 rfl (fun r5 M2 k3 hp4 => ?_)
        obtain ⟨rfl, hF6, hk7⟩ := hp4
        refine g_aload_n hC dL_law_1276 2 rfl gRef_r 1277 rfl ?_
        refine g_aload_n hC dL_law_1277 0 rfl gRef_r 1278 rfl ?_
        refine g_iload_n hC dL_law_1278 3 rfl 1279 rfl ?_
        refine g_iconst hC dL_law_1279 ki_1 1280 rfl ?_
        refine g_iadd hC dL_law_1280 1281 rfl ?_
        refine g_topi (y := nI (6 * j + 1)) (nI_a (a := (6 * j)) (b := 1) (c := (6 * j + 1)) (by omega)) ?_
        refine g_scr hC hX hbz (i := 6 * j + 1) (by omega) hL dL_law_1281 1282 rfl ?_
        refine g_aload_n hC dL_law_1282 0 rfl gRef_r 1283 rfl ?_
        refine g_iload_n hC dL_law_1283 3 rfl 1284 rfl ?_
        refine g_iconst hC dL_law_1284 ki_2 1285 rfl ?_
        refine g_iadd hC dL_law_1285 1286 rfl ?_
        refine g_topi (y := nI (6 * j + 2)) (nI_a (a := (6 * j)) (b := 2) (c := (6 * j + 2)) (by omega)) ?_
        refine g_scr hC hX hbz (i := 6 * j + 2) (by omega) hL dL_law_1286 1287 rfl ?_
        refine g_if_eq hC dL_law_1287 1294 rfl 1290 rfl (fun c_8 => ?_) (fun c_8 => ?_)
        · refine g_iconst hC dL_law_1294 ki_0 1295 rfl ?_
          refine g_aload_n hC dL_law_1295 0 rfl gRef_r 1296 rfl ?_
          refine g_iload_n hC dL_law_1296 3 rfl 1297 rfl ?_
          refine g_iconst hC dL_law_1297 ki_3 1298 rfl ?_
          refine g_iadd hC dL_law_1298 1299 rfl ?_
          refine g_topi (y := nI (6 * j + 3)) (nI_a (a := (6 * j)) (b := 3) (c := (6 * j + 3)) (by omega)) ?_
          refine g_scr hC hX hbz (i := 6 * j + 3) (by omega) hL dL_law_1299 1300 rfl ?_
          refine g_topi (y := nI ln) eln ?_
          refine g_aload_n hC dL_law_1300 0 rfl gRef_r 1301 rfl ?_
          refine g_iload_n hC dL_law_1301 3 rfl 1302 rfl ?_
          refine g_iconst hC dL_law_1302 ki_4 1303 rfl ?_
          refine g_iadd hC dL_law_1303 1304 rfl ?_
          refine g_topi (y := nI (6 * j + 4)) (nI_a (a := (6 * j)) (b := 4) (c := (6 * j + 4)) (by omega)) ?_
          refine g_scr hC hX hbz (i := 6 * j + 4) (by omega) hL dL_law_1304 1305 rfl ?_
          refine g_st (st' := [.int (xs (6 * j + 4)), .int (nI ln), .int (bI false), .int (xs (6 * j + 1)), .ref m0, .int (obT (laysT ga 0 (xs (6 * j + 1)) false ln (xs (6 * j + 4))) (byF false ln + 34) (-1) (2 * (byF false ln + 34) + 2) 0 0 0 (-1))]) rfl ?_
          refine g_calli (g_V (As := [.int (xs (6 * j + 1)), .int (bI false), .int (nI ln), .int (xs (6 * j + 4))]) (rest := [.int (obT (laysT ga 0 (xs (6 * j + 1)) false ln (xs (6 * j + 4))) (byF false ln + 34) (-1) (2 * (byF false ln + 34) + 2) 0 0 0 (-1))]) hC mvX8_frameBits q2996 (gOf.of hC.K cI7 (hF6 _ _ _ hM_3 (show ¬ (tgR 9 8 16) (1, 0) by (try simp only [ndT, tgE, gT, tgR, ndT9, ndW, tg0, Prod.mk.injEq, true_and, and_true, cpyT, msT]); first | done | omega | (simp; done) | simp_all))) (met_T_frameBits l G M2 m0 av asp ak aik atx (nI lc) am (nI mc) aa (nI pc_) ato ga (xs (6 * j + 1)) false ln (xs (6 * j + 4)) hf hln (hF6 _ _ _ hM_3 (show ¬ (tgR 9 8 16) (1, 0) by (try simp only [ndT, tgE, gT, tgR, ndT9, ndW, tg0, Prod.mk.injEq, true_and, and_true, cpyT, msT]); first | done | omega | (simp; done) | simp_all)) (hF6 _ _ _ hM_10 (show ¬ (tgR 9 8 16) (1, 7) by (try simp only [ndT, tgE, gT, tgR, ndT9, ndW, tg0, Prod.mk.injEq, true_and, and_true, cpyT, msT]); first | done | omega | (simp; done) | simp_all))) ⟨rfl, rfl⟩ ⟨(Nat.le_of_ble_eq_true rfl), (Nat.le_of_ble_eq_true rfl)⟩ rfl (Nat.le_of_ble_eq_true rfl) dL_law_1305 rfl ⟨(by first | omega | exact Nat.le_of_ble_eq_true rfl | (show _ ≤ 601471; omega) | (show _ ≤ 7291690; omega)), (by first | omega | exact Nat.le_of_ble_eq_true rfl | (show _ ≤ 601471; omega) | (show _ ≤ 7291690; omega))⟩) (9200 * j + 300 + 222) (by first | omega | exact Nat.le_of_ble_eq_true rfl | (show _ ≤ 601471; omega) | (show _ ≤ 7291690; omega)) (70000 * j + 20000 + 506) (by first | omega | exact Nat.le_of_ble_eq_true rfl | (show _ ≤ 601471; omega) | (show _ ≤ 7291690; omega)) 1308 rfl (fun r12 M9 k10 hp11 => ?_)
          obtain ⟨rfl, hc13, hF14, hk15⟩ := hp11
          obtain ⟨F16, eF17⟩ : ∃ z9, z9 = laysT ga 0 (xs (6 * j + 1)) false ln (xs (6 * j + 4)) := ⟨_, rfl⟩
          rw [← eF17] at hc13
          refine g_icmp_eq hC dL_law_1308 1649 rfl 1311 rfl (fun c_18 => ?_) (fun c_18 => ?_)
          · exact ih M9 ⟨ta, of, sv, ms, tx, lc, av, asp, ak, aik, atx, am, mc, aa, pc_, ato, t0, t1, f, txf, sp, kf, ik, gm, F16, gt, A, ⟨⟨by omega, by omega⟩, ⟨by omega, by omega⟩, ⟨by omega, by omega⟩, by omega, by omega, by omega, by omega, by omega, by omega⟩, htx, (hF14 _ _ _ (hF6 _ _ _ hM_0 (show ¬ (tgR 9 8 16) (8, 0) by (try simp only [ndT, tgE, gT, tgR, ndT9, ndW, tg0, Prod.mk.injEq, true_and, and_true, cpyT, msT]); first | done | omega | (simp; done) | simp_all)) (gno (gne_oa (hF6 _ _ _ hM_0 (show ¬ (tgR 9 8 16) (8, 0) by (try simp only [ndT, tgE, gT, tgR, ndT9, ndW, tg0, Prod.mk.injEq, true_and, and_true, cpyT, msT]); first | done | omega | (simp; done) | simp_all)) (hF6 _ _ _ hM_10 (show ¬ (tgR 9 8 16) (1, 7) by (try simp only [ndT, tgE, gT, tgR, ndT9, ndW, tg0, Prod.mk.injEq, true_and, and_true, cpyT, msT]); first | done | omega | (simp; done) | simp_all))) gno0)), (hF14 _ _ _ (hF6 _ _ _ hM_1 (show ¬ (tgR 9 8 16) (8, 1) by (try simp only [ndT, tgE, gT, tgR, ndT9, ndW, tg0, Prod.mk.injEq, true_and, and_true, cpyT, msT]); first | done | omega | (simp; done) | simp_all)) (gno (gne_t (hF6 _ _ _ hM_1 (show ¬ (tgR 9 8 16) (8, 1) by (try simp only [ndT, tgE, gT, tgR, ndT9, ndW, tg0, Prod.mk.injEq, true_and, and_true, cpyT, msT]); first | done | omega | (simp; done) | simp_all)) (hF6 _ _ _ hM_10 (show ¬ (tgR 9 8 16) (1, 7) by (try simp only [ndT, tgE, gT, tgR, ndT9, ndW, tg0, Prod.mk.injEq, true_and, and_true, cpyT, msT]); first | done | omega | (simp; done) | simp_all)) (by first | assumption | decide | (intro h; simp only [Prod.mk.injEq] at h; omega) | simp | (intro h; simp at h))) gno0)), (hF14 _ _ _ (hF6 _ _ _ hM_2 (show ¬ (tgR 9 8 16) (8, 5) by (try simp only [ndT, tgE, gT, tgR, ndT9, ndW, tg0, Prod.mk.injEq, true_and, and_true, cpyT, msT]); first | done | omega | (simp; done) | simp_all)) (gno (gne_t (hF6 _ _ _ hM_2 (show ¬ (tgR 9 8 16) (8, 5) by (try simp only [ndT, tgE, gT, tgR, ndT9, ndW, tg0, Prod.mk.injEq, true_and, and_true, cpyT, msT]); first | done | omega | (simp; done) | simp_all)) (hF6 _ _ _ hM_10 (show ¬ (tgR 9 8 16) (1, 7) by (try simp only [ndT, tgE, gT, tgR, ndT9, ndW, tg0, Prod.mk.injEq, true_and, and_true, cpyT, msT]); first | done | omega | (simp; done) | simp_all)) (by first | assumption | decide | (intro h; simp only [Prod.mk.injEq] at h; omega) | simp | (intro h; simp at h))) gno0)), (hF14 _ _ _ (hF6 _ _ _ hM_3 (show ¬ (tgR 9 8 16) (1, 0) by (try simp only [ndT, tgE, gT, tgR, ndT9, ndW, tg0, Prod.mk.injEq, true_and, and_true, cpyT, msT]); first | done | omega | (simp; done) | simp_all)) (gno (gne_oa (hF6 _ _ _ hM_3 (show ¬ (tgR 9 8 16) (1, 0) by (try simp only [ndT, tgE, gT, tgR, ndT9, ndW, tg0, Prod.mk.injEq, true_and, and_true, cpyT, msT]); first | done | omega | (simp; done) | simp_all)) (hF6 _ _ _ hM_10 (show ¬ (tgR 9 8 16) (1, 7) by (try simp only [ndT, tgE, gT, tgR, ndT9, ndW, tg0, Prod.mk.injEq, true_and, and_true, cpyT, msT]); first | done | omega | (simp; done) | simp_all))) gno0)), (hF14 _ _ _ (hF6 _ _ _ hM_4 (show ¬ (tgR 9 8 16) (1, 1) by (try simp only [ndT, tgE, gT, tgR, ndT9, ndW, tg0, Prod.mk.injEq, true_and, and_true, cpyT, msT]); first | done | omega | (simp; done) | simp_all)) (gno (gne_t (hF6 _ _ _ hM_4 (show ¬ (tgR 9 8 16) (1, 1) by (try simp only [ndT, tgE, gT, tgR, ndT9, ndW, tg0, Prod.mk.injEq, true_and, and_true, cpyT, msT]); first | done | omega | (simp; done) | simp_all)) (hF6 _ _ _ hM_10 (show ¬ (tgR 9 8 16) (1, 7) by (try simp only [ndT, tgE, gT, tgR, ndT9, ndW, tg0, Prod.mk.injEq, true_and, and_true, cpyT, msT]); first | done | omega | (simp; done) | simp_all)) (by first | assumption | decide | (intro h; simp only [Prod.mk.injEq] at h; omega) | simp | (intro h; simp at h))) gno0)), (hF14 _ _ _ (hF6 _ _ _ hM_5 (show ¬ (tgR 9 8 16) (1, 2) by (try simp only [ndT, tgE, gT, tgR, ndT9, ndW, tg0, Prod.mk.injEq, true_and, and_true, cpyT, msT]); first | done | omega | (simp; done) | simp_all)) (gno (gne_t (hF6 _ _ _ hM_5 (show ¬ (tgR 9 8 16) (1, 2) by (try simp only [ndT, tgE, gT, tgR, ndT9, ndW, tg0, Prod.mk.injEq, true_and, and_true, cpyT, msT]); first | done | omega | (simp; done) | simp_all)) (hF6 _ _ _ hM_10 (show ¬ (tgR 9 8 16) (1, 7) by (try simp only [ndT, tgE, gT, tgR, ndT9, ndW, tg0, Prod.mk.injEq, true_and, and_true, cpyT, msT]); first | done | omega | (simp; done) | simp_all)) (by first | assumption | decide | (intro h; simp only [Prod.mk.injEq] at h; omega) | simp | (intro h; simp at h))) gno0)), (hF14 _ _ _ (hF6 _ _ _ hM_6 (show ¬ (tgR 9 8 16) (1, 3) by (try simp only [ndT, tgE, gT, tgR, ndT9, ndW, tg0, Prod.mk.injEq, true_and, and_true, cpyT, msT]); first | done | omega | (simp; done) | simp_all)) (gno (gne_t (hF6 _ _ _ hM_6 (show ¬ (tgR 9 8 16) (1, 3) by (try simp only [ndT, tgE, gT, tgR, ndT9, ndW, tg0, Prod.mk.injEq, true_and, and_true, cpyT, msT]); first | done | omega | (simp; done) | simp_all)) (hF6 _ _ _ hM_10 (show ¬ (tgR 9 8 16) (1, 7) by (try simp only [ndT, tgE, gT, tgR, ndT9, ndW, tg0, Prod.mk.injEq, true_and, and_true, cpyT, msT]); first | done | omega | (simp; done) | simp_all)) (by first | assumption | decide | (intro h; simp only [Prod.mk.injEq] at h; omega) | simp | (intro h; simp at h))) gno0)), (hF14 _ _ _ (hF6 _ _ _ hM_7 (show ¬ (tgR 9 8 16) (1, 4) by (try simp only [ndT, tgE, gT, tgR, ndT9, ndW, tg0, Prod.mk.injEq, true_and, and_true, cpyT, msT]); first | done | omega | (simp; done) | simp_all)) (gno (gne_t (hF6 _ _ _ hM_7 (show ¬ (tgR 9 8 16) (1, 4) by (try simp only [ndT, tgE, gT, tgR, ndT9, ndW, tg0, Prod.mk.injEq, true_and, and_true, cpyT, msT]); first | done | omega | (simp; done) | simp_all)) (hF6 _ _ _ hM_10 (show ¬ (tgR 9 8 16) (1, 7) by (try simp only [ndT, tgE, gT, tgR, ndT9, ndW, tg0, Prod.mk.injEq, true_and, and_true, cpyT, msT]); first | done | omega | (simp; done) | simp_all)) (by first | assumption | decide | (intro h; simp only [Prod.mk.injEq] at h; omega) | simp | (intro h; simp at h))) gno0)), (hF14 _ _ _ (hF6 _ _ _ hM_8 (show ¬ (tgR 9 8 16) (1, 5) by (try simp only [ndT, tgE, gT, tgR, ndT9, ndW, tg0, Prod.mk.injEq, true_and, and_true, cpyT, msT]); first | done | omega | (simp; done) | simp_all)) (gno (gne_t (hF6 _ _ _ hM_8 (show ¬ (tgR 9 8 16) (1, 5) by (try simp only [ndT, tgE, gT, tgR, ndT9, ndW, tg0, Prod.mk.injEq, true_and, and_true, cpyT, msT]); first | done | omega | (simp; done) | simp_all)) (hF6 _ _ _ hM_10 (show ¬ (tgR 9 8 16) (1, 7) by (try simp only [ndT, tgE, gT, tgR, ndT9, ndW, tg0, Prod.mk.injEq, true_and, and_true, cpyT, msT]); first | done | omega | (simp; done) | simp_all)) (by first | assumption | decide | (intro h; simp only [Prod.mk.injEq] at h; omega) | simp | (intro h; simp at h))) gno0)), (hF14 _ _ _ (hF6 _ _ _ hM_9 (show ¬ (tgR 9 8 16) (1, 6) by (try simp only [ndT, tgE, gT, tgR, ndT9, ndW, tg0, Prod.mk.injEq, true_and, and_true, cpyT, msT]); first | done | omega | (simp; done) | simp_all)) (gno (gne_t (hF6 _ _ _ hM_9 (show ¬ (tgR 9 8 16) (1, 6) by (try simp only [ndT, tgE, gT, tgR, ndT9, ndW, tg0, Prod.mk.injEq, true_and, and_true, cpyT, msT]); first | done | omega | (simp; done) | simp_all)) (hF6 _ _ _ hM_10 (show ¬ (tgR 9 8 16) (1, 7) by (try simp only [ndT, tgE, gT, tgR, ndT9, ndW, tg0, Prod.mk.injEq, true_and, and_true, cpyT, msT]); first | done | omega | (simp; done) | simp_all)) (by first | assumption | decide | (intro h; simp only [Prod.mk.injEq] at h; omega) | simp | (intro h; simp at h))) gno0)), hc13, (hF14 _ _ _ (hF6 _ _ _ hM_11 (show ¬ (tgR 9 8 16) (1, 8) by (try simp only [ndT, tgE, gT, tgR, ndT9, ndW, tg0, Prod.mk.injEq, true_and, and_true, cpyT, msT]); first | done | omega | (simp; done) | simp_all)) (gno (gne_t (hF6 _ _ _ hM_11 (show ¬ (tgR 9 8 16) (1, 8) by (try simp only [ndT, tgE, gT, tgR, ndT9, ndW, tg0, Prod.mk.injEq, true_and, and_true, cpyT, msT]); first | done | omega | (simp; done) | simp_all)) (hF6 _ _ _ hM_10 (show ¬ (tgR 9 8 16) (1, 7) by (try simp only [ndT, tgE, gT, tgR, ndT9, ndW, tg0, Prod.mk.injEq, true_and, and_true, cpyT, msT]); first | done | omega | (simp; done) | simp_all)) (by first | assumption | decide | (intro h; simp only [Prod.mk.injEq] at h; omega) | simp | (intro h; simp at h))) gno0)), (by try rw [eF17]; exact busR.mono (busR.fr hB ((gFr.refl.trans (hF6.mono (fun b t h => by obtain ⟨u9, v9⟩ := t; revert h; (try simp only [ndT, tgE, gT, tgR, ndT9, ndW, tg0, Prod.mk.injEq, true_and, and_true, cpyT, msT]); first | done | omega | (simp; done) | (intro h; simp_all; done)))).trf hF14 (fun b t e hb hn => (gno (gne_t ((gFr.refl.trans (hF6.mono (fun b t h => by obtain ⟨u9, v9⟩ := t; revert h; (try simp only [ndT, tgE, gT, tgR, ndT9, ndW, tg0, Prod.mk.injEq, true_and, and_true, cpyT, msT]); first | done | omega | (simp; done) | (intro h; simp_all; done)))) b t e hb hn) (hF6 _ _ _ hM_10 (show ¬ (tgR 9 8 16) (1, 7) by (try simp only [ndT, tgE, gT, tgR, ndT9, ndW, tg0, Prod.mk.injEq, true_and, and_true, cpyT, msT]); first | done | omega | (simp; done) | simp_all)) (fun q => hn (by rw [q]; exact (show (fun t => ¬ (fun t => t.1 = ta ∨ tg0 t) t) (1, 7) by (try simp only [ndT, tgE, gT, tgR, ndT9, ndW, tg0, Prod.mk.injEq, true_and, and_true, cpyT, msT]); first | done | omega | (simp; done))))) gno0)))) (by omega)), ((sv1.fr hS0 ((gFr.refl.trans (hF6.mono (fun b t h => by obtain ⟨u9, v9⟩ := t; revert h; (try simp only [ndT, tgE, gT, tgR, ndT9, ndW, tg0, Prod.mk.injEq, true_and, and_true, cpyT, msT]); first | done | omega | (simp; done) | (intro h; simp_all; done)))).trf hF14 (fun b t e hb hn => (gno (gne_t ((gFr.refl.trans (hF6.mono (fun b t h => by obtain ⟨u9, v9⟩ := t; revert h; (try simp only [ndT, tgE, gT, tgR, ndT9, ndW, tg0, Prod.mk.injEq, true_and, and_true, cpyT, msT]); first | done | omega | (simp; done) | (intro h; simp_all; done)))) b t e hb hn) (hF6 _ _ _ hM_10 (show ¬ (tgR 9 8 16) (1, 7) by (try simp only [ndT, tgE, gT, tgR, ndT9, ndW, tg0, Prod.mk.injEq, true_and, and_true, cpyT, msT]); first | done | omega | (simp; done) | simp_all)) (fun q => hn (by rw [q]; exact (show (fun t => ¬ (fun t => t.1 = t0 ∨ tg0 t) t) (1, 7) by (try simp only [ndT, tgE, gT, tgR, ndT9, ndW, tg0, Prod.mk.injEq, true_and, and_true, cpyT, msT]); first | done | omega | (simp; done))))) gno0)))).mono (by omega)), ((sv1.fr hS1 ((gFr.refl.trans (hF6.mono (fun b t h => by obtain ⟨u9, v9⟩ := t; revert h; (try simp only [ndT, tgE, gT, tgR, ndT9, ndW, tg0, Prod.mk.injEq, true_and, and_true, cpyT, msT]); first | done | omega | (simp; done) | (intro h; simp_all; done)))).trf hF14 (fun b t e hb hn => (gno (gne_t ((gFr.refl.trans (hF6.mono (fun b t h => by obtain ⟨u9, v9⟩ := t; revert h; (try simp only [ndT, tgE, gT, tgR, ndT9, ndW, tg0, Prod.mk.injEq, true_and, and_true, cpyT, msT]); first | done | omega | (simp; done) | (intro h; simp_all; done)))) b t e hb hn) (hF6 _ _ _ hM_10 (show ¬ (tgR 9 8 16) (1, 7) by (try simp only [ndT, tgE, gT, tgR, ndT9, ndW, tg0, Prod.mk.injEq, true_and, and_true, cpyT, msT]); first | done | omega | (simp; done) | simp_all)) (fun q => hn (by rw [q]; exact (show (fun t => ¬ (fun t => t.1 = t1 ∨ tg0 t) t) (1, 7) by (try simp only [ndT, tgE, gT, tgR, ndT9, ndW, tg0, Prod.mk.injEq, true_and, and_true, cpyT, msT]); first | done | omega | (simp; done))))) gno0)))).mono (by omega)), (by try rw [eF17]; exact (msR.fr hMs ((gFr.refl.trans (hF6.mono (fun b t h => by obtain ⟨u9, v9⟩ := t; revert h; (try simp only [ndT, tgE, gT, tgR, ndT9, ndW, tg0, Prod.mk.injEq, true_and, and_true, cpyT, msT]); first | done | omega | (simp; done) | (intro h; simp_all; done)))).trf hF14 (fun b t e hb hn => (gno (gne_t ((gFr.refl.trans (hF6.mono (fun b t h => by obtain ⟨u9, v9⟩ := t; revert h; (try simp only [ndT, tgE, gT, tgR, ndT9, ndW, tg0, Prod.mk.injEq, true_and, and_true, cpyT, msT]); first | done | omega | (simp; done) | (intro h; simp_all; done)))) b t e hb hn) (hF6 _ _ _ hM_10 (show ¬ (tgR 9 8 16) (1, 7) by (try simp only [ndT, tgE, gT, tgR, ndT9, ndW, tg0, Prod.mk.injEq, true_and, and_true, cpyT, msT]); first | done | omega | (simp; done) | simp_all)) (fun q => hn (by rw [q]; exact (show (fun t => ¬ msT t) (1, 7) by (try simp only [ndT, tgE, gT, tgR, ndT9, ndW, tg0, Prod.mk.injEq, true_and, and_true, cpyT, msT]); first | done | omega | (simp; done))))) gno0)))))⟩
          · exact absurd rfl c_18
        · exact absurd hb2 c_8
      · exact absurd hb2 c_1
    · refine g_aload_n hC dL_law_1244 1 rfl gRef_r 1245 rfl ?_
      refine g_aload_n hC dL_law_1245 0 rfl gRef_r 1246 rfl ?_
      refine g_iload_n hC dL_law_1246 3 rfl 1247 rfl ?_
      refine g_iconst hC dL_law_1247 ki_1 1248 rfl ?_
      refine g_iadd hC dL_law_1248 1249 rfl ?_
      refine g_topi (y := nI (6 * j + 1)) (nI_a (a := (6 * j)) (b := 1) (c := (6 * j + 1)) (by omega)) ?_
      refine g_scr hC hX hbz (i := 6 * j + 1) (by omega) hL dL_law_1249 1250 rfl ?_
      refine g_aload_n hC dL_law_1250 0 rfl gRef_r 1251 rfl ?_
      refine g_iload_n hC dL_law_1251 3 rfl 1252 rfl ?_
      refine g_iconst hC dL_law_1252 ki_2 1253 rfl ?_
      refine g_iadd hC dL_law_1253 1254 rfl ?_
      refine g_topi (y := nI (6 * j + 2)) (nI_a (a := (6 * j)) (b := 2) (c := (6 * j + 2)) (by omega)) ?_
      refine g_scr hC hX hbz (i := 6 * j + 2) (by omega) hL dL_law_1254 1255 rfl ?_
      refine g_if_eq hC dL_law_1255 1262 rfl 1258 rfl (fun c_19 => ?_) (fun c_19 => ?_)
      · refine g_iconst hC dL_law_1262 ki_0 1263 rfl ?_
        refine g_aload_n hC dL_law_1263 0 rfl gRef_r 1264 rfl ?_
        refine g_iload_n hC dL_law_1264 3 rfl 1265 rfl ?_
        refine g_iconst hC dL_law_1265 ki_3 1266 rfl ?_
        refine g_iadd hC dL_law_1266 1267 rfl ?_
        refine g_topi (y := nI (6 * j + 3)) (nI_a (a := (6 * j)) (b := 3) (c := (6 * j + 3)) (by omega)) ?_
        refine g_scr hC hX hbz (i := 6 * j + 3) (by omega) hL dL_law_1267 1268 rfl ?_
        refine g_aload_n hC dL_law_1268 0 rfl gRef_r 1269 rfl ?_
        refine g_iload_n hC dL_law_1269 3 rfl 1270 rfl ?_
        refine g_iconst hC dL_law_1270 ki_4 1271 rfl ?_
        refine g_iadd hC dL_law_1271 1272 rfl ?_
        refine g_topi (y := nI (6 * j + 4)) (nI_a (a := (6 * j)) (b := 4) (c := (6 * j + 4)) (by omega)) ?_
        refine g_scr hC hX hbz (i := 6 * j + 4) (by omega) hL dL_law_1272 1273 rfl ?_
        refine g_st (st' := [.int (xs (6 * j + 4)), .int (xs (6 * j + 3)), .int (bI false), .int (xs (6 * j + 1)), .ref x]) rfl ?_
        refine g_calliP (g_V (As := [.int (xs (6 * j + 1)), .int (bI false), .int (xs (6 * j + 3)), .int (xs (6 * j + 4))]) (rest := []) hC mvX0_frameBits q2559 (gOf.of hC.K cI0 hM_0) (met_X_frameBits_n l G M x (xs (6 * j + 1)) false (xs (6 * j + 3)) (xs (6 * j + 4)) hf) ⟨rfl, rfl⟩ ⟨(Nat.le_of_ble_eq_true rfl), (Nat.le_of_ble_eq_true rfl)⟩ rfl (Nat.le_of_ble_eq_true rfl) dL_law_1273 rfl ⟨(by first | omega | exact Nat.le_of_ble_eq_true rfl | (show _ ≤ 601471; omega) | (show _ ≤ 7291690; omega)), (by first | omega | exact Nat.le_of_ble_eq_true rfl | (show _ ≤ 601471; omega) | (show _ ≤ 7291690; omega))⟩) 1276 rfl (70000 * j + 20000) (by first | omega | exact Nat.le_of_ble_eq_true rfl | (show _ ≤ 601471; omega) | (show _ ≤ 7291690; omega)) ?_
        refine g_aload_n hC dL_law_1276 2 rfl gRef_r 1277 rfl ?_
        refine g_aload_n hC dL_law_1277 0 rfl gRef_r 1278 rfl ?_
        refine g_iload_n hC dL_law_1278 3 rfl 1279 rfl ?_
        refine g_iconst hC dL_law_1279 ki_1 1280 rfl ?_
        refine g_iadd hC dL_law_1280 1281 rfl ?_
        refine g_topi (y := nI (6 * j + 1)) (nI_a (a := (6 * j)) (b := 1) (c := (6 * j + 1)) (by omega)) ?_
        refine g_scr hC hX hbz (i := 6 * j + 1) (by omega) hL dL_law_1281 1282 rfl ?_
        refine g_aload_n hC dL_law_1282 0 rfl gRef_r 1283 rfl ?_
        refine g_iload_n hC dL_law_1283 3 rfl 1284 rfl ?_
        refine g_iconst hC dL_law_1284 ki_2 1285 rfl ?_
        refine g_iadd hC dL_law_1285 1286 rfl ?_
        refine g_topi (y := nI (6 * j + 2)) (nI_a (a := (6 * j)) (b := 2) (c := (6 * j + 2)) (by omega)) ?_
        refine g_scr hC hX hbz (i := 6 * j + 2) (by omega) hL dL_law_1286 1287 rfl ?_
        refine g_if_eq hC dL_law_1287 1294 rfl 1290 rfl (fun c_20 => ?_) (fun c_20 => ?_)
        · refine g_iconst hC dL_law_1294 ki_0 1295 rfl ?_
          refine g_aload_n hC dL_law_1295 0 rfl gRef_r 1296 rfl ?_
          refine g_iload_n hC dL_law_1296 3 rfl 1297 rfl ?_
          refine g_iconst hC dL_law_1297 ki_3 1298 rfl ?_
          refine g_iadd hC dL_law_1298 1299 rfl ?_
          refine g_topi (y := nI (6 * j + 3)) (nI_a (a := (6 * j)) (b := 3) (c := (6 * j + 3)) (by omega)) ?_
          refine g_scr hC hX hbz (i := 6 * j + 3) (by omega) hL dL_law_1299 1300 rfl ?_
          refine g_aload_n hC dL_law_1300 0 rfl gRef_r 1301 rfl ?_
          refine g_iload_n hC dL_law_1301 3 rfl 1302 rfl ?_
          refine g_iconst hC dL_law_1302 ki_4 1303 rfl ?_
          refine g_iadd hC dL_law_1303 1304 rfl ?_
          refine g_topi (y := nI (6 * j + 4)) (nI_a (a := (6 * j)) (b := 4) (c := (6 * j + 4)) (by omega)) ?_
          refine g_scr hC hX hbz (i := 6 * j + 4) (by omega) hL dL_law_1304 1305 rfl ?_
          refine g_st (st' := [.int (xs (6 * j + 4)), .int (xs (6 * j + 3)), .int (bI false), .int (xs (6 * j + 1)), .ref m0, .int (-2)]) rfl ?_
          refine g_calliP (g_V (As := [.int (xs (6 * j + 1)), .int (bI false), .int (xs (6 * j + 3)), .int (xs (6 * j + 4))]) (rest := [.int (-2)]) hC mvX8_frameBits q2996 (gOf.of hC.K cI7 hM_3) (met_T_frameBits_n l G M m0 av asp ak aik atx (nI lc) am (nI mc) aa (nI pc_) ato ga (xs (6 * j + 1)) false (xs (6 * j + 3)) (xs (6 * j + 4)) hf hM_3 hM_10) ⟨rfl, rfl⟩ ⟨(Nat.le_of_ble_eq_true rfl), (Nat.le_of_ble_eq_true rfl)⟩ rfl (Nat.le_of_ble_eq_true rfl) dL_law_1305 rfl ⟨(by first | omega | exact Nat.le_of_ble_eq_true rfl | (show _ ≤ 601471; omega) | (show _ ≤ 7291690; omega)), (by first | omega | exact Nat.le_of_ble_eq_true rfl | (show _ ≤ 601471; omega) | (show _ ≤ 7291690; omega))⟩) 1308 rfl (70000 * j + 20000) (by first | omega | exact Nat.le_of_ble_eq_true rfl | (show _ ≤ 601471; omega) | (show _ ≤ 7291690; omega)) ?_
          refine g_icmp_eq hC dL_law_1308 1649 rfl 1311 rfl (fun c_21 => ?_) (fun c_21 => ?_)
          · exact ih M ⟨ta, of, sv, ms, tx, lc, av, asp, ak, aik, atx, am, mc, aa, pc_, ato, t0, t1, f, txf, sp, kf, ik, gm, ga, gt, A, ⟨⟨by omega, by omega⟩, ⟨by omega, by omega⟩, ⟨by omega, by omega⟩, by omega, by omega, by omega, by omega, by omega, by omega⟩, htx, hM_0, hM_1, hM_2, hM_3, hM_4, hM_5, hM_6, hM_7, hM_8, hM_9, hM_10, hM_11, busR.mono hB (by omega), (hS0.mono (by omega)), (hS1.mono (by omega)), hMs⟩
          · exact absurd c_21 (by decide)
        · exact absurd hb2 c_20
      · exact absurd hb2 c_19
  · by_cases hf : okF (xs (6 * j + 1)) true (xs (6 * j + 3)) (xs (6 * j + 4))
    · obtain ⟨ln, hln, eln⟩ := ln_n hf.2.1
      rw [eln] at hf
      refine g_aload_n hC dL_law_1244 1 rfl gRef_r 1245 rfl ?_
      refine g_aload_n hC dL_law_1245 0 rfl gRef_r 1246 rfl ?_
      refine g_iload_n hC dL_law_1246 3 rfl 1247 rfl ?_
      refine g_iconst hC dL_law_1247 ki_1 1248 rfl ?_
      refine g_iadd hC dL_law_1248 1249 rfl ?_
      refine g_topi (y := nI (6 * j + 1)) (nI_a (a := (6 * j)) (b := 1) (c := (6 * j + 1)) (by omega)) ?_
      refine g_scr hC hX hbz (i := 6 * j + 1) (by omega) hL dL_law_1249 1250 rfl ?_
      refine g_aload_n hC dL_law_1250 0 rfl gRef_r 1251 rfl ?_
      refine g_iload_n hC dL_law_1251 3 rfl 1252 rfl ?_
      refine g_iconst hC dL_law_1252 ki_2 1253 rfl ?_
      refine g_iadd hC dL_law_1253 1254 rfl ?_
      refine g_topi (y := nI (6 * j + 2)) (nI_a (a := (6 * j)) (b := 2) (c := (6 * j + 2)) (by omega)) ?_
      refine g_scr hC hX hbz (i := 6 * j + 2) (by omega) hL dL_law_1254 1255 rfl ?_
      refine g_if_eq hC dL_law_1255 1262 rfl 1258 rfl (fun c_22 => ?_) (fun c_22 => ?_)
      · exact absurd c_22 hb2
      · refine g_iconst hC dL_law_1258 ki_1 1259 rfl ?_
        refine g_goto hC dL_law_1259 1263 rfl ?_
        refine g_aload_n hC dL_law_1263 0 rfl gRef_r 1264 rfl ?_
        refine g_iload_n hC dL_law_1264 3 rfl 1265 rfl ?_
        refine g_iconst hC dL_law_1265 ki_3 1266 rfl ?_
        refine g_iadd hC dL_law_1266 1267 rfl ?_
        refine g_topi (y := nI (6 * j + 3)) (nI_a (a := (6 * j)) (b := 3) (c := (6 * j + 3)) (by omega)) ?_
        refine g_scr hC hX hbz (i := 6 * j + 3) (by omega) hL dL_law_1267 1268 rfl ?_
        refine g_topi (y := nI ln) eln ?_
        refine g_aload_n hC dL_law_1268 0 rfl gRef_r 1269 rfl ?_
        refine g_iload_n hC dL_law_1269 3 rfl 1270 rfl ?_
        refine g_iconst hC dL_law_1270 ki_4 1271 rfl ?_
        refine g_iadd hC dL_law_1271 1272 rfl ?_
        refine g_topi (y := nI (6 * j + 4)) (nI_a (a := (6 * j)) (b := 4) (c := (6 * j + 4)) (by omega)) ?_
        refine g_scr hC hX hbz (i := 6 * j + 4) (by omega) hL dL_law_1272 1273 rfl ?_
        refine g_st (st' := [.int (xs (6 * j + 4)), .int (nI ln), .int (bI true), .int (xs (6 * j + 1)), .ref x]) rfl ?_
        refine g_calli (g_V (As := [.int (xs (6 * j + 1)), .int (bI true), .int (nI ln), .int (xs (6 * j + 4))]) (rest := []) hC mvX0_frameBits q2559 (gOf.of hC.K cI0 hM_0) (met_X_frameBits l G M x ga (xs (6 * j + 1)) true ln (xs (6 * j + 4)) hf hln) ⟨rfl, rfl⟩ ⟨(Nat.le_of_ble_eq_true rfl), (Nat.le_of_ble_eq_true rfl)⟩ rfl (Nat.le_of_ble_eq_true rfl) dL_law_1273 rfl ⟨(by first | omega | exact Nat.le_of_ble_eq_true rfl | (show _ ≤ 601471; omega) | (show _ ≤ 7291690; omega)), (by first | omega | exact Nat.le_of_ble_eq_true rfl | (show _ ≤ 601471; omega) | (show _ ≤ 7291690; omega))⟩) (9200 * j + 300 + 222) (by first | omega | exact Nat.le_of_ble_eq_true rfl | (show _ ≤ 601471; omega) | (show _ ≤ 7291690; omega)) (70000 * j + 20000 + 506) (by first | omega | exact Nat.le_of_ble_eq_true rfl | (show _ ≤ 601471; omega) | (show _ ≤ 7291690; omega)) 1276 rfl (fun r26 M23 k24 hp25 => ?_)
        obtain ⟨rfl, hF27, hk28⟩ := hp25
        refine g_aload_n hC dL_law_1276 2 rfl gRef_r 1277 rfl ?_
        refine g_aload_n hC dL_law_1277 0 rfl gRef_r 1278 rfl ?_
        refine g_iload_n hC dL_law_1278 3 rfl 1279 rfl ?_
        refine g_iconst hC dL_law_1279 ki_1 1280 rfl ?_
        refine g_iadd hC dL_law_1280 1281 rfl ?_
        refine g_topi (y := nI (6 * j + 1)) (nI_a (a := (6 * j)) (b := 1) (c := (6 * j + 1)) (by omega)) ?_
        refine g_scr hC hX hbz (i := 6 * j + 1) (by omega) hL dL_law_1281 1282 rfl ?_
        refine g_aload_n hC dL_law_1282 0 rfl gRef_r 1283 rfl ?_
        refine g_iload_n hC dL_law_1283 3 rfl 1284 rfl ?_
        refine g_iconst hC dL_law_1284 ki_2 1285 rfl ?_
        refine g_iadd hC dL_law_1285 1286 rfl ?_
        refine g_topi (y := nI (6 * j + 2)) (nI_a (a := (6 * j)) (b := 2) (c := (6 * j + 2)) (by omega)) ?_
        refine g_scr hC hX hbz (i := 6 * j + 2) (by omega) hL dL_law_1286 1287 rfl ?_
        refine g_if_eq hC dL_law_1287 1294 rfl 1290 rfl (fun c_29 => ?_) (fun c_29 => ?_)
        · exact absurd c_29 hb2
        · refine g_iconst hC dL_law_1290 ki_1 1291 rfl ?_
          refine g_goto hC dL_law_1291 1295 rfl ?_
          refine g_aload_n hC dL_law_1295 0 rfl gRef_r 1296 rfl ?_
          refine g_iload_n hC dL_law_1296 3 rfl 1297 rfl ?_
          refine g_iconst hC dL_law_1297 ki_3 1298 rfl ?_
          refine g_iadd hC dL_law_1298 1299 rfl ?_
          refine g_topi (y := nI (6 * j + 3)) (nI_a (a := (6 * j)) (b := 3) (c := (6 * j + 3)) (by omega)) ?_
          refine g_scr hC hX hbz (i := 6 * j + 3) (by omega) hL dL_law_1299 1300 rfl ?_
          refine g_topi (y := nI ln) eln ?_
          refine g_aload_n hC dL_law_1300 0 rfl gRef_r 1301 rfl ?_
          refine g_iload_n hC dL_law_1301 3 rfl 1302 rfl ?_
          refine g_iconst hC dL_law_1302 ki_4 1303 rfl ?_
          refine g_iadd hC dL_law_1303 1304 rfl ?_
          refine g_topi (y := nI (6 * j + 4)) (nI_a (a := (6 * j)) (b := 4) (c := (6 * j + 4)) (by omega)) ?_
          refine g_scr hC hX hbz (i := 6 * j + 4) (by omega) hL dL_law_1304 1305 rfl ?_
          refine g_st (st' := [.int (xs (6 * j + 4)), .int (nI ln), .int (bI true), .int (xs (6 * j + 1)), .ref m0, .int (obT (laysT ga 0 (xs (6 * j + 1)) true ln (xs (6 * j + 4))) (byF true ln + 34) (-1) (2 * (byF true ln + 34) + 2) 0 0 0 (-1))]) rfl ?_
          refine g_calli (g_V (As := [.int (xs (6 * j + 1)), .int (bI true), .int (nI ln), .int (xs (6 * j + 4))]) (rest := [.int (obT (laysT ga 0 (xs (6 * j + 1)) true ln (xs (6 * j + 4))) (byF true ln + 34) (-1) (2 * (byF true ln + 34) + 2) 0 0 0 (-1))]) hC mvX8_frameBits q2996 (gOf.of hC.K cI7 (hF27 _ _ _ hM_3 (show ¬ (tgR 9 8 16) (1, 0) by (try simp only [ndT, tgE, gT, tgR, ndT9, ndW, tg0, Prod.mk.injEq, true_and, and_true, cpyT, msT]); first | done | omega | (simp; done) | simp_all))) (met_T_frameBits l G M23 m0 av asp ak aik atx (nI lc) am (nI mc) aa (nI pc_) ato ga (xs (6 * j + 1)) true ln (xs (6 * j + 4)) hf hln (hF27 _ _ _ hM_3 (show ¬ (tgR 9 8 16) (1, 0) by (try simp only [ndT, tgE, gT, tgR, ndT9, ndW, tg0, Prod.mk.injEq, true_and, and_true, cpyT, msT]); first | done | omega | (simp; done) | simp_all)) (hF27 _ _ _ hM_10 (show ¬ (tgR 9 8 16) (1, 7) by (try simp only [ndT, tgE, gT, tgR, ndT9, ndW, tg0, Prod.mk.injEq, true_and, and_true, cpyT, msT]); first | done | omega | (simp; done) | simp_all))) ⟨rfl, rfl⟩ ⟨(Nat.le_of_ble_eq_true rfl), (Nat.le_of_ble_eq_true rfl)⟩ rfl (Nat.le_of_ble_eq_true rfl) dL_law_1305 rfl ⟨(by first | omega | exact Nat.le_of_ble_eq_true rfl | (show _ ≤ 601471; omega) | (show _ ≤ 7291690; omega)), (by first | omega | exact Nat.le_of_ble_eq_true rfl | (show _ ≤ 601471; omega) | (show _ ≤ 7291690; omega))⟩) (9200 * j + 300 + 222) (by first | omega | exact Nat.le_of_ble_eq_true rfl | (show _ ≤ 601471; omega) | (show _ ≤ 7291690; omega)) (70000 * j + 20000 + 506) (by first | omega | exact Nat.le_of_ble_eq_true rfl | (show _ ≤ 601471; omega) | (show _ ≤ 7291690; omega)) 1308 rfl (fun r33 M30 k31 hp32 => ?_)
          obtain ⟨rfl, hc34, hF35, hk36⟩ := hp32
          obtain ⟨F37, eF38⟩ : ∃ z9, z9 = laysT ga 0 (xs (6 * j + 1)) true ln (xs (6 * j + 4)) := ⟨_, rfl⟩
          rw [← eF38] at hc34
          refine g_icmp_eq hC dL_law_1308 1649 rfl 1311 rfl (fun c_39 => ?_) (fun c_39 => ?_)
          · exact ih M30 ⟨ta, of, sv, ms, tx, lc, av, asp, ak, aik, atx, am, mc, aa, pc_, ato, t0, t1, f, txf, sp, kf, ik, gm, F37, gt, A, ⟨⟨by omega, by omega⟩, ⟨by omega, by omega⟩, ⟨by omega, by omega⟩, by omega, by omega, by omega, by omega, by omega, by omega⟩, htx, (hF35 _ _ _ (hF27 _ _ _ hM_0 (show ¬ (tgR 9 8 16) (8, 0) by (try simp only [ndT, tgE, gT, tgR, ndT9, ndW, tg0, Prod.mk.injEq, true_and, and_true, cpyT, msT]); first | done | omega | (simp; done) | simp_all)) (gno (gne_oa (hF27 _ _ _ hM_0 (show ¬ (tgR 9 8 16) (8, 0) by (try simp only [ndT, tgE, gT, tgR, ndT9, ndW, tg0, Prod.mk.injEq, true_and, and_true, cpyT, msT]); first | done | omega | (simp; done) | simp_all)) (hF27 _ _ _ hM_10 (show ¬ (tgR 9 8 16) (1, 7) by (try simp only [ndT, tgE, gT, tgR, ndT9, ndW, tg0, Prod.mk.injEq, true_and, and_true, cpyT, msT]); first | done | omega | (simp; done) | simp_all))) gno0)), (hF35 _ _ _ (hF27 _ _ _ hM_1 (show ¬ (tgR 9 8 16) (8, 1) by (try simp only [ndT, tgE, gT, tgR, ndT9, ndW, tg0, Prod.mk.injEq, true_and, and_true, cpyT, msT]); first | done | omega | (simp; done) | simp_all)) (gno (gne_t (hF27 _ _ _ hM_1 (show ¬ (tgR 9 8 16) (8, 1) by (try simp only [ndT, tgE, gT, tgR, ndT9, ndW, tg0, Prod.mk.injEq, true_and, and_true, cpyT, msT]); first | done | omega | (simp; done) | simp_all)) (hF27 _ _ _ hM_10 (show ¬ (tgR 9 8 16) (1, 7) by (try simp only [ndT, tgE, gT, tgR, ndT9, ndW, tg0, Prod.mk.injEq, true_and, and_true, cpyT, msT]); first | done | omega | (simp; done) | simp_all)) (by first | assumption | decide | (intro h; simp only [Prod.mk.injEq] at h; omega) | simp | (intro h; simp at h))) gno0)), (hF35 _ _ _ (hF27 _ _ _ hM_2 (show ¬ (tgR 9 8 16) (8, 5) by (try simp only [ndT, tgE, gT, tgR, ndT9, ndW, tg0, Prod.mk.injEq, true_and, and_true, cpyT, msT]); first | done | omega | (simp; done) | simp_all)) (gno (gne_t (hF27 _ _ _ hM_2 (show ¬ (tgR 9 8 16) (8, 5) by (try simp only [ndT, tgE, gT, tgR, ndT9, ndW, tg0, Prod.mk.injEq, true_and, and_true, cpyT, msT]); first | done | omega | (simp; done) | simp_all)) (hF27 _ _ _ hM_10 (show ¬ (tgR 9 8 16) (1, 7) by (try simp only [ndT, tgE, gT, tgR, ndT9, ndW, tg0, Prod.mk.injEq, true_and, and_true, cpyT, msT]); first | done | omega | (simp; done) | simp_all)) (by first | assumption | decide | (intro h; simp only [Prod.mk.injEq] at h; omega) | simp | (intro h; simp at h))) gno0)), (hF35 _ _ _ (hF27 _ _ _ hM_3 (show ¬ (tgR 9 8 16) (1, 0) by (try simp only [ndT, tgE, gT, tgR, ndT9, ndW, tg0, Prod.mk.injEq, true_and, and_true, cpyT, msT]); first | done | omega | (simp; done) | simp_all)) (gno (gne_oa (hF27 _ _ _ hM_3 (show ¬ (tgR 9 8 16) (1, 0) by (try simp only [ndT, tgE, gT, tgR, ndT9, ndW, tg0, Prod.mk.injEq, true_and, and_true, cpyT, msT]); first | done | omega | (simp; done) | simp_all)) (hF27 _ _ _ hM_10 (show ¬ (tgR 9 8 16) (1, 7) by (try simp only [ndT, tgE, gT, tgR, ndT9, ndW, tg0, Prod.mk.injEq, true_and, and_true, cpyT, msT]); first | done | omega | (simp; done) | simp_all))) gno0)), (hF35 _ _ _ (hF27 _ _ _ hM_4 (show ¬ (tgR 9 8 16) (1, 1) by (try simp only [ndT, tgE, gT, tgR, ndT9, ndW, tg0, Prod.mk.injEq, true_and, and_true, cpyT, msT]); first | done | omega | (simp; done) | simp_all)) (gno (gne_t (hF27 _ _ _ hM_4 (show ¬ (tgR 9 8 16) (1, 1) by (try simp only [ndT, tgE, gT, tgR, ndT9, ndW, tg0, Prod.mk.injEq, true_and, and_true, cpyT, msT]); first | done | omega | (simp; done) | simp_all)) (hF27 _ _ _ hM_10 (show ¬ (tgR 9 8 16) (1, 7) by (try simp only [ndT, tgE, gT, tgR, ndT9, ndW, tg0, Prod.mk.injEq, true_and, and_true, cpyT, msT]); first | done | omega | (simp; done) | simp_all)) (by first | assumption | decide | (intro h; simp only [Prod.mk.injEq] at h; omega) | simp | (intro h; simp at h))) gno0)), (hF35 _ _ _ (hF27 _ _ _ hM_5 (show ¬ (tgR 9 8 16) (1, 2) by (try simp only [ndT, tgE, gT, tgR, ndT9, ndW, tg0, Prod.mk.injEq, true_and, and_true, cpyT, msT]); first | done | omega | (simp; done) | simp_all)) (gno (gne_t (hF27 _ _ _ hM_5 (show ¬ (tgR 9 8 16) (1, 2) by (try simp only [ndT, tgE, gT, tgR, ndT9, ndW, tg0, Prod.mk.injEq, true_and, and_true, cpyT, msT]); first | done | omega | (simp; done) | simp_all)) (hF27 _ _ _ hM_10 (show ¬ (tgR 9 8 16) (1, 7) by (try simp only [ndT, tgE, gT, tgR, ndT9, ndW, tg0, Prod.mk.injEq, true_and, and_true, cpyT, msT]); first | done | omega | (simp; done) | simp_all)) (by first | assumption | decide | (intro h; simp only [Prod.mk.injEq] at h; omega) | simp | (intro h; simp at h))) gno0)), (hF35 _ _ _ (hF27 _ _ _ hM_6 (show ¬ (tgR 9 8 16) (1, 3) by (try simp only [ndT, tgE, gT, tgR, ndT9, ndW, tg0, Prod.mk.injEq, true_and, and_true, cpyT, msT]); first | done | omega | (simp; done) | simp_all)) (gno (gne_t (hF27 _ _ _ hM_6 (show ¬ (tgR 9 8 16) (1, 3) by (try simp only [ndT, tgE, gT, tgR, ndT9, ndW, tg0, Prod.mk.injEq, true_and, and_true, cpyT, msT]); first | done | omega | (simp; done) | simp_all)) (hF27 _ _ _ hM_10 (show ¬ (tgR 9 8 16) (1, 7) by (try simp only [ndT, tgE, gT, tgR, ndT9, ndW, tg0, Prod.mk.injEq, true_and, and_true, cpyT, msT]); first | done | omega | (simp; done) | simp_all)) (by first | assumption | decide | (intro h; simp only [Prod.mk.injEq] at h; omega) | simp | (intro h; simp at h))) gno0)), (hF35 _ _ _ (hF27 _ _ _ hM_7 (show ¬ (tgR 9 8 16) (1, 4) by (try simp only [ndT, tgE, gT, tgR, ndT9, ndW, tg0, Prod.mk.injEq, true_and, and_true, cpyT, msT]); first | done | omega | (simp; done) | simp_all)) (gno (gne_t (hF27 _ _ _ hM_7 (show ¬ (tgR 9 8 16) (1, 4) by (try simp only [ndT, tgE, gT, tgR, ndT9, ndW, tg0, Prod.mk.injEq, true_and, and_true, cpyT, msT]); first | done | omega | (simp; done) | simp_all)) (hF27 _ _ _ hM_10 (show ¬ (tgR 9 8 16) (1, 7) by (try simp only [ndT, tgE, gT, tgR, ndT9, ndW, tg0, Prod.mk.injEq, true_and, and_true, cpyT, msT]); first | done | omega | (simp; done) | simp_all)) (by first | assumption | decide | (intro h; simp only [Prod.mk.injEq] at h; omega) | simp | (intro h; simp at h))) gno0)), (hF35 _ _ _ (hF27 _ _ _ hM_8 (show ¬ (tgR 9 8 16) (1, 5) by (try simp only [ndT, tgE, gT, tgR, ndT9, ndW, tg0, Prod.mk.injEq, true_and, and_true, cpyT, msT]); first | done | omega | (simp; done) | simp_all)) (gno (gne_t (hF27 _ _ _ hM_8 (show ¬ (tgR 9 8 16) (1, 5) by (try simp only [ndT, tgE, gT, tgR, ndT9, ndW, tg0, Prod.mk.injEq, true_and, and_true, cpyT, msT]); first | done | omega | (simp; done) | simp_all)) (hF27 _ _ _ hM_10 (show ¬ (tgR 9 8 16) (1, 7) by (try simp only [ndT, tgE, gT, tgR, ndT9, ndW, tg0, Prod.mk.injEq, true_and, and_true, cpyT, msT]); first | done | omega | (simp; done) | simp_all)) (by first | assumption | decide | (intro h; simp only [Prod.mk.injEq] at h; omega) | simp | (intro h; simp at h))) gno0)), (hF35 _ _ _ (hF27 _ _ _ hM_9 (show ¬ (tgR 9 8 16) (1, 6) by (try simp only [ndT, tgE, gT, tgR, ndT9, ndW, tg0, Prod.mk.injEq, true_and, and_true, cpyT, msT]); first | done | omega | (simp; done) | simp_all)) (gno (gne_t (hF27 _ _ _ hM_9 (show ¬ (tgR 9 8 16) (1, 6) by (try simp only [ndT, tgE, gT, tgR, ndT9, ndW, tg0, Prod.mk.injEq, true_and, and_true, cpyT, msT]); first | done | omega | (simp; done) | simp_all)) (hF27 _ _ _ hM_10 (show ¬ (tgR 9 8 16) (1, 7) by (try simp only [ndT, tgE, gT, tgR, ndT9, ndW, tg0, Prod.mk.injEq, true_and, and_true, cpyT, msT]); first | done | omega | (simp; done) | simp_all)) (by first | assumption | decide | (intro h; simp only [Prod.mk.injEq] at h; omega) | simp | (intro h; simp at h))) gno0)), hc34, (hF35 _ _ _ (hF27 _ _ _ hM_11 (show ¬ (tgR 9 8 16) (1, 8) by (try simp only [ndT, tgE, gT, tgR, ndT9, ndW, tg0, Prod.mk.injEq, true_and, and_true, cpyT, msT]); first | done | omega | (simp; done) | simp_all)) (gno (gne_t (hF27 _ _ _ hM_11 (show ¬ (tgR 9 8 16) (1, 8) by (try simp only [ndT, tgE, gT, tgR, ndT9, ndW, tg0, Prod.mk.injEq, true_and, and_true, cpyT, msT]); first | done | omega | (simp; done) | simp_all)) (hF27 _ _ _ hM_10 (show ¬ (tgR 9 8 16) (1, 7) by (try simp only [ndT, tgE, gT, tgR, ndT9, ndW, tg0, Prod.mk.injEq, true_and, and_true, cpyT, msT]); first | done | omega | (simp; done) | simp_all)) (by first | assumption | decide | (intro h; simp only [Prod.mk.injEq] at h; omega) | simp | (intro h; simp at h))) gno0)), (by try rw [eF38]; exact busR.mono (busR.fr hB ((gFr.refl.trans (hF27.mono (fun b t h => by obtain ⟨u9, v9⟩ := t; revert h; (try simp only [ndT, tgE, gT, tgR, ndT9, ndW, tg0, Prod.mk.injEq, true_and, and_true, cpyT, msT]); first | done | omega | (simp; done) | (intro h; simp_all; done)))).trf hF35 (fun b t e hb hn => (gno (gne_t ((gFr.refl.trans (hF27.mono (fun b t h => by obtain ⟨u9, v9⟩ := t; revert h; (try simp only [ndT, tgE, gT, tgR, ndT9, ndW, tg0, Prod.mk.injEq, true_and, and_true, cpyT, msT]); first | done | omega | (simp; done) | (intro h; simp_all; done)))) b t e hb hn) (hF27 _ _ _ hM_10 (show ¬ (tgR 9 8 16) (1, 7) by (try simp only [ndT, tgE, gT, tgR, ndT9, ndW, tg0, Prod.mk.injEq, true_and, and_true, cpyT, msT]); first | done | omega | (simp; done) | simp_all)) (fun q => hn (by rw [q]; exact (show (fun t => ¬ (fun t => t.1 = ta ∨ tg0 t) t) (1, 7) by (try simp only [ndT, tgE, gT, tgR, ndT9, ndW, tg0, Prod.mk.injEq, true_and, and_true, cpyT, msT]); first | done | omega | (simp; done))))) gno0)))) (by omega)), ((sv1.fr hS0 ((gFr.refl.trans (hF27.mono (fun b t h => by obtain ⟨u9, v9⟩ := t; revert h; (try simp only [ndT, tgE, gT, tgR, ndT9, ndW, tg0, Prod.mk.injEq, true_and, and_true, cpyT, msT]); first | done | omega | (simp; done) | (intro h; simp_all; done)))).trf hF35 (fun b t e hb hn => (gno (gne_t ((gFr.refl.trans (hF27.mono (fun b t h => by obtain ⟨u9, v9⟩ := t; revert h; (try simp only [ndT, tgE, gT, tgR, ndT9, ndW, tg0, Prod.mk.injEq, true_and, and_true, cpyT, msT]); first | done | omega | (simp; done) | (intro h; simp_all; done)))) b t e hb hn) (hF27 _ _ _ hM_10 (show ¬ (tgR 9 8 16) (1, 7) by (try simp only [ndT, tgE, gT, tgR, ndT9, ndW, tg0, Prod.mk.injEq, true_and, and_true, cpyT, msT]); first | done | omega | (simp; done) | simp_all)) (fun q => hn (by rw [q]; exact (show (fun t => ¬ (fun t => t.1 = t0 ∨ tg0 t) t) (1, 7) by (try simp only [ndT, tgE, gT, tgR, ndT9, ndW, tg0, Prod.mk.injEq, true_and, and_true, cpyT, msT]); first | done | omega | (simp; done))))) gno0)))).mono (by omega)), ((sv1.fr hS1 ((gFr.refl.trans (hF27.mono (fun b t h => by obtain ⟨u9, v9⟩ := t; revert h; (try simp only [ndT, tgE, gT, tgR, ndT9, ndW, tg0, Prod.mk.injEq, true_and, and_true, cpyT, msT]); first | done | omega | (simp; done) | (intro h; simp_all; done)))).trf hF35 (fun b t e hb hn => (gno (gne_t ((gFr.refl.trans (hF27.mono (fun b t h => by obtain ⟨u9, v9⟩ := t; revert h; (try simp only [ndT, tgE, gT, tgR, ndT9, ndW, tg0, Prod.mk.injEq, true_and, and_true, cpyT, msT]); first | done | omega | (simp; done) | (intro h; simp_all; done)))) b t e hb hn) (hF27 _ _ _ hM_10 (show ¬ (tgR 9 8 16) (1, 7) by (try simp only [ndT, tgE, gT, tgR, ndT9, ndW, tg0, Prod.mk.injEq, true_and, and_true, cpyT, msT]); first | done | omega | (simp; done) | simp_all)) (fun q => hn (by rw [q]; exact (show (fun t => ¬ (fun t => t.1 = t1 ∨ tg0 t) t) (1, 7) by (try simp only [ndT, tgE, gT, tgR, ndT9, ndW, tg0, Prod.mk.injEq, true_and, and_true, cpyT, msT]); first | done | omega | (simp; done))))) gno0)))).mono (by omega)), (by try rw [eF38]; exact (msR.fr hMs ((gFr.refl.trans (hF27.mono (fun b t h => by obtain ⟨u9, v9⟩ := t; revert h; (try simp only [ndT, tgE, gT, tgR, ndT9, ndW, tg0, Prod.mk.injEq, true_and, and_true, cpyT, msT]); first | done | omega | (simp; done) | (intro h; simp_all; done)))).trf hF35 (fun b t e hb hn => (gno (gne_t ((gFr.refl.trans (hF27.mono (fun b t h => by obtain ⟨u9, v9⟩ := t; revert h; (try simp only [ndT, tgE, gT, tgR, ndT9, ndW, tg0, Prod.mk.injEq, true_and, and_true, cpyT, msT]); first | done | omega | (simp; done) | (intro h; simp_all; done)))) b t e hb hn) (hF27 _ _ _ hM_10 (show ¬ (tgR 9 8 16) (1, 7) by (try simp only [ndT, tgE, gT, tgR, ndT9, ndW, tg0, Prod.mk.injEq, true_and, and_true, cpyT, msT]); first | done | omega | (simp; done) | simp_all)) (fun q => hn (by rw [q]; exact (show (fun t => ¬ msT t) (1, 7) by (try simp only [ndT, tgE, gT, tgR, ndT9, ndW, tg0, Prod.mk.injEq, true_and, and_true, cpyT, msT]); first | done | omega | (simp; done))))) gno0)))))⟩
          · exact absurd rfl c_39
    · refine g_aload_n hC dL_law_1244 1 rfl gRef_r 1245 rfl ?_
      refine g_aload_n hC dL_law_1245 0 rfl gRef_r 1246 rfl ?_
      refine g_iload_n hC dL_law_1246 3 rfl 1247 rfl ?_
      refine g_iconst hC dL_law_1247 ki_1 1248 rfl ?_
      refine g_iadd hC dL_law_1248 1249 rfl ?_
      refine g_topi (y := nI (6 * j + 1)) (nI_a (a := (6 * j)) (b := 1) (c := (6 * j + 1)) (by omega)) ?_
      refine g_scr hC hX hbz (i := 6 * j + 1) (by omega) hL dL_law_1249 1250 rfl ?_
      refine g_aload_n hC dL_law_1250 0 rfl gRef_r 1251 rfl ?_
      refine g_iload_n hC dL_law_1251 3 rfl 1252 rfl ?_
      refine g_iconst hC dL_law_1252 ki_2 1253 rfl ?_
      refine g_iadd hC dL_law_1253 1254 rfl ?_
      refine g_topi (y := nI (6 * j + 2)) (nI_a (a := (6 * j)) (b := 2) (c := (6 * j + 2)) (by omega)) ?_
      refine g_scr hC hX hbz (i := 6 * j + 2) (by omega) hL dL_law_1254 1255 rfl ?_
      refine g_if_eq hC dL_law_1255 1262 rfl 1258 rfl (fun c_40 => ?_) (fun c_40 => ?_)
      · exact absurd c_40 hb2
      · refine g_iconst hC dL_law_1258 ki_1 1259 rfl ?_
        refine g_goto hC dL_law_1259 1263 rfl ?_
        refine g_aload_n hC dL_law_1263 0 rfl gRef_r 1264 rfl ?_
        refine g_iload_n hC dL_law_1264 3 rfl 1265 rfl ?_
        refine g_iconst hC dL_law_1265 ki_3 1266 rfl ?_
        refine g_iadd hC dL_law_1266 1267 rfl ?_
        refine g_topi (y := nI (6 * j + 3)) (nI_a (a := (6 * j)) (b := 3) (c := (6 * j + 3)) (by omega)) ?_
        refine g_scr hC hX hbz (i := 6 * j + 3) (by omega) hL dL_law_1267 1268 rfl ?_
        refine g_aload_n hC dL_law_1268 0 rfl gRef_r 1269 rfl ?_
        refine g_iload_n hC dL_law_1269 3 rfl 1270 rfl ?_
        refine g_iconst hC dL_law_1270 ki_4 1271 rfl ?_
        refine g_iadd hC dL_law_1271 1272 rfl ?_
        refine g_topi (y := nI (6 * j + 4)) (nI_a (a := (6 * j)) (b := 4) (c := (6 * j + 4)) (by omega)) ?_
        refine g_scr hC hX hbz (i := 6 * j + 4) (by omega) hL dL_law_1272 1273 rfl ?_
        refine g_st (st' := [.int (xs (6 * j + 4)), .int (xs (6 * j + 3)), .int (bI true), .int (xs (6 * j + 1)), .ref x]) rfl ?_
        refine g_calliP (g_V (As := [.int (xs (6 * j + 1)), .int (bI true), .int (xs (6 * j + 3)), .int (xs (6 * j + 4))]) (rest := []) hC mvX0_frameBits q2559 (gOf.of hC.K cI0 hM_0) (met_X_frameBits_n l G M x (xs (6 * j + 1)) true (xs (6 * j + 3)) (xs (6 * j + 4)) hf) ⟨rfl, rfl⟩ ⟨(Nat.le_of_ble_eq_true rfl), (Nat.le_of_ble_eq_true rfl)⟩ rfl (Nat.le_of_ble_eq_true rfl) dL_law_1273 rfl ⟨(by first | omega | exact Nat.le_of_ble_eq_true rfl | (show _ ≤ 601471; omega) | (show _ ≤ 7291690; omega)), (by first | omega | exact Nat.le_of_ble_eq_true rfl | (show _ ≤ 601471; omega) | (show _ ≤ 7291690; omega))⟩) 1276 rfl (70000 * j + 20000) (by first | omega | exact Nat.le_of_ble_eq_true rfl | (show _ ≤ 601471; omega) | (show _ ≤ 7291690; omega)) ?_
        refine g_aload_n hC dL_law_1276 2 rfl gRef_r 1277 rfl ?_
        refine g_aload_n hC dL_law_1277 0 rfl gRef_r 1278 rfl ?_
        refine g_iload_n hC dL_law_1278 3 rfl 1279 rfl ?_
        refine g_iconst hC dL_law_1279 ki_1 1280 rfl ?_
        refine g_iadd hC dL_law_1280 1281 rfl ?_
        refine g_topi (y := nI (6 * j + 1)) (nI_a (a := (6 * j)) (b := 1) (c := (6 * j + 1)) (by omega)) ?_
        refine g_scr hC hX hbz (i := 6 * j + 1) (by omega) hL dL_law_1281 1282 rfl ?_
        refine g_aload_n hC dL_law_1282 0 rfl gRef_r 1283 rfl ?_
        refine g_iload_n hC dL_law_1283 3 rfl 1284 rfl ?_
        refine g_iconst hC dL_law_1284 ki_2 1285 rfl ?_
        refine g_iadd hC dL_law_1285 1286 rfl ?_
        refine g_topi (y := nI (6 * j + 2)) (nI_a (a := (6 * j)) (b := 2) (c := (6 * j + 2)) (by omega)) ?_
        refine g_scr hC hX hbz (i := 6 * j + 2) (by omega) hL dL_law_1286 1287 rfl ?_
        refine g_if_eq hC dL_law_1287 1294 rfl 1290 rfl (fun c_41 => ?_) (fun c_41 => ?_)
        · exact absurd c_41 hb2
        · refine g_iconst hC dL_law_1290 ki_1 1291 rfl ?_
          refine g_goto hC dL_law_1291 1295 rfl ?_
          refine g_aload_n hC dL_law_1295 0 rfl gRef_r 1296 rfl ?_
          refine g_iload_n hC dL_law_1296 3 rfl 1297 rfl ?_
          refine g_iconst hC dL_law_1297 ki_3 1298 rfl ?_
          refine g_iadd hC dL_law_1298 1299 rfl ?_
          refine g_topi (y := nI (6 * j + 3)) (nI_a (a := (6 * j)) (b := 3) (c := (6 * j + 3)) (by omega)) ?_
          refine g_scr hC hX hbz (i := 6 * j + 3) (by omega) hL dL_law_1299 1300 rfl ?_
          refine g_aload_n hC dL_law_1300 0 rfl gRef_r 1301 rfl ?_
          refine g_iload_n hC dL_law_1301 3 rfl 1302 rfl ?_
          refine g_iconst hC dL_law_1302 ki_4 1303 rfl ?_
          refine g_iadd hC dL_law_1303 1304 rfl ?_
          refine g_topi (y := nI (6 * j + 4)) (nI_a (a := (6 * j)) (b := 4) (c := (6 * j + 4)) (by omega)) ?_
          refine g_scr hC hX hbz (i := 6 * j + 4) (by omega) hL dL_law_1304 1305 rfl ?_
          refine g_st (st' := [.int (xs (6 * j + 4)), .int (xs (6 * j + 3)), .int (bI true), .int (xs (6 * j + 1)), .ref m0, .int (-2)]) rfl ?_
          refine g_calliP (g_V (As := [.int (xs (6 * j + 1)), .int (bI true), .int (xs (6 * j + 3)), .int (xs (6 * j + 4))]) (rest := [.int (-2)]) hC mvX8_frameBits q2996 (gOf.of hC.K cI7 hM_3) (met_T_frameBits_n l G M m0 av asp ak aik atx (nI lc) am (nI mc) aa (nI pc_) ato ga (xs (6 * j + 1)) true (xs (6 * j + 3)) (xs (6 * j + 4)) hf hM_3 hM_10) ⟨rfl, rfl⟩ ⟨(Nat.le_of_ble_eq_true rfl), (Nat.le_of_ble_eq_true rfl)⟩ rfl (Nat.le_of_ble_eq_true rfl) dL_law_1305 rfl ⟨(by first | omega | exact Nat.le_of_ble_eq_true rfl | (show _ ≤ 601471; omega) | (show _ ≤ 7291690; omega)), (by first | omega | exact Nat.le_of_ble_eq_true rfl | (show _ ≤ 601471; omega) | (show _ ≤ 7291690; omega))⟩) 1308 rfl (70000 * j + 20000) (by first | omega | exact Nat.le_of_ble_eq_true rfl | (show _ ≤ 601471; omega) | (show _ ≤ 7291690; omega)) ?_
          refine g_icmp_eq hC dL_law_1308 1649 rfl 1311 rfl (fun c_42 => ?_) (fun c_42 => ?_)
          · exact ih M ⟨ta, of, sv, ms, tx, lc, av, asp, ak, aik, atx, am, mc, aa, pc_, ato, t0, t1, f, txf, sp, kf, ik, gm, ga, gt, A, ⟨⟨by omega, by omega⟩, ⟨by omega, by omega⟩, ⟨by omega, by omega⟩, by omega, by omega, by omega, by omega, by omega, by omega⟩, htx, hM_0, hM_1, hM_2, hM_3, hM_4, hM_5, hM_6, hM_7, hM_8, hM_9, hM_10, hM_11, busR.mono hB (by omega), (hS0.mono (by omega)), (hS1.mono (by omega)), hMs⟩
          · exact absurd c_42 (by decide)
set_option maxHeartbeats 4000000 in
theorem lwc_35 {nm : String} {p : Program} {l : Launch} {e : Env} {s : State} {m : MethodId} {args : Array Value} {below : List Frame} {meth : Method} {c : Code} {G : gG} {Q : State → Prop} {M : gM} {b L x m0 q j : Nat} {xs : Nat → Int32} (hC : gC p s m args meth c G 4 cL_law "ArbitratedBusLaw" nm (some .boolean)) (hX : va_X b L xs s s.heap) (hbz : b < s.heap.size ∧ b < gz G) (hL : L ≤ 384) (hj : 6 * j + 6 ≤ L) (hqj : q ≤ 1100 * j) (hI : LW M G x m0 q) (ih : ∀ M', LW M' G x m0 (q + 1100) → gJ p l e room_1 s m args below meth c G 4 Q (9200 * (j + 1) + 300) (70000 * (j + 1) + 20000) M' 1649 [(0, .ref b), (1, .ref x), (2, .ref m0), (3, .int (nI (6 * j)))] []) : gJ p l e room_1 s m args below meth c G 4 Q (9200 * j + 300) (70000 * j + 20000) M 1313 [(0, .ref b), (1, .ref x), (2, .ref m0), (3, .int (nI (6 * j)))] [] := by
  obtain ⟨ta, of, sv, ms, tx, lc, av, asp, ak, aik, atx, am, mc, aa, pc_, ato, t0, t1, f, txf, sp, kf, ik, gm, ga, gt, A, ⟨⟨hta2, hta6⟩, ⟨ht02, ht06⟩, ⟨ht12, ht16⟩, ha0, ha1, h01, hlc, hpc, hmc⟩, htx, hM_0, hM_1, hM_2, hM_3, hM_4, hM_5, hM_6, hM_7, hM_8, hM_9, hM_10, hM_11, hB, hS0, hS1, hMs⟩ := hI
  have hokA := busR.ok hB (by omega)
  by_cases hb2 : xs (6 * j + 2) = 0
  · by_cases hf : okF (xs (6 * j + 1)) false (xs (6 * j + 3)) (xs (6 * j + 4))
    · obtain ⟨ln, hln, eln⟩ := ln_n hf.2.1
      rw [eln] at hf
      by_cases hix : xs (6 * j + 5) < 0
      · have hf0 := hf
        rw [← eln] at hf0
        refine g_aload_n hC dL_law_1313 1 rfl gRef_r 1314 rfl ?_
        refine g_aload_n hC dL_law_1314 0 rfl gRef_r 1315 rfl ?_
        refine g_iload_n hC dL_law_1315 3 rfl 1316 rfl ?_
        refine g_iconst hC dL_law_1316 ki_1 1317 rfl ?_
        refine g_iadd hC dL_law_1317 1318 rfl ?_
        refine g_topi (y := nI (6 * j + 1)) (nI_a (a := (6 * j)) (b := 1) (c := (6 * j + 1)) (by omega)) ?_
        refine g_scr hC hX hbz (i := 6 * j + 1) (by omega) hL dL_law_1318 1319 rfl ?_
        refine g_aload_n hC dL_law_1319 0 rfl gRef_r 1320 rfl ?_
        refine g_iload_n hC dL_law_1320 3 rfl 1321 rfl ?_
        refine g_iconst hC dL_law_1321 ki_2 1322 rfl ?_
        refine g_iadd hC dL_law_1322 1323 rfl ?_
        refine g_topi (y := nI (6 * j + 2)) (nI_a (a := (6 * j)) (b := 2) (c := (6 * j + 2)) (by omega)) ?_
        refine g_scr hC hX hbz (i := 6 * j + 2) (by omega) hL dL_law_1323 1324 rfl ?_
        refine g_if_eq hC dL_law_1324 1331 rfl 1327 rfl (fun c_1 => ?_) (fun c_1 => ?_)
        · refine g_iconst hC dL_law_1331 ki_0 1332 rfl ?_
          refine g_aload_n hC dL_law_1332 0 rfl gRef_r 1333 rfl ?_
          refine g_iload_n hC dL_law_1333 3 rfl 1334 rfl ?_
          refine g_iconst hC dL_law_1334 ki_3 1335 rfl ?_
          refine g_iadd hC dL_law_1335 1336 rfl ?_
          refine g_topi (y := nI (6 * j + 3)) (nI_a (a := (6 * j)) (b := 3) (c := (6 * j + 3)) (by omega)) ?_
          refine g_scr hC hX hbz (i := 6 * j + 3) (by omega) hL dL_law_1336 1337 rfl ?_
          refine g_aload_n hC dL_law_1337 0 rfl gRef_r 1338 rfl ?_
          refine g_iload_n hC dL_law_1338 3 rfl 1339 rfl ?_
          refine g_iconst hC dL_law_1339 ki_4 1340 rfl ?_
          refine g_iadd hC dL_law_1340 1341 rfl ?_
          refine g_topi (y := nI (6 * j + 4)) (nI_a (a := (6 * j)) (b := 4) (c := (6 * j + 4)) (by omega)) ?_
          refine g_scr hC hX hbz (i := 6 * j + 4) (by omega) hL dL_law_1341 1342 rfl ?_
          refine g_aload_n hC dL_law_1342 0 rfl gRef_r 1343 rfl ?_
          refine g_iload_n hC dL_law_1343 3 rfl 1344 rfl ?_
          refine g_iconst hC dL_law_1344 ki_5 1345 rfl ?_
          refine g_iadd hC dL_law_1345 1346 rfl ?_
          refine g_topi (y := nI (6 * j + 5)) (nI_a (a := (6 * j)) (b := 5) (c := (6 * j + 5)) (by omega)) ?_
          refine g_scr hC hX hbz (i := 6 * j + 5) (by omega) hL dL_law_1346 1347 rfl ?_
          refine g_st (st' := [.int (xs (6 * j + 5)), .int (xs (6 * j + 4)), .int (xs (6 * j + 3)), .int (bI false), .int (xs (6 * j + 1)), .ref x]) rfl ?_
          refine g_calliP (g_V (As := [.int (xs (6 * j + 1)), .int (bI false), .int (xs (6 * j + 3)), .int (xs (6 * j + 4)), .int (xs (6 * j + 5))]) (rest := []) hC mvX0_frameBit q2608 (gOf.of hC.K cI0 hM_0) (met_X_frameBit_0 l G M x (xs (6 * j + 1)) false (xs (6 * j + 3)) (xs (6 * j + 4)) (xs (6 * j + 5)) hf0 hix) ⟨rfl, rfl⟩ ⟨(Nat.le_of_ble_eq_true rfl), (Nat.le_of_ble_eq_true rfl)⟩ rfl (Nat.le_of_ble_eq_true rfl) dL_law_1347 rfl ⟨(by first | omega | exact Nat.le_of_ble_eq_true rfl | (show _ ≤ 601471; omega) | (show _ ≤ 7291690; omega)), (by first | omega | exact Nat.le_of_ble_eq_true rfl | (show _ ≤ 601471; omega) | (show _ ≤ 7291690; omega))⟩) 1350 rfl (70000 * j + 20000) (by first | omega | exact Nat.le_of_ble_eq_true rfl | (show _ ≤ 601471; omega) | (show _ ≤ 7291690; omega)) ?_
          refine g_aload_n hC dL_law_1350 2 rfl gRef_r 1351 rfl ?_
          refine g_aload_n hC dL_law_1351 0 rfl gRef_r 1352 rfl ?_
          refine g_iload_n hC dL_law_1352 3 rfl 1353 rfl ?_
          refine g_iconst hC dL_law_1353 ki_1 1354 rfl ?_
          refine g_iadd hC dL_law_1354 1355 rfl ?_
          refine g_topi (y := nI (6 * j + 1)) (nI_a (a := (6 * j)) (b := 1) (c := (6 * j + 1)) (by omega)) ?_
          refine g_scr hC hX hbz (i := 6 * j + 1) (by omega) hL dL_law_1355 1356 rfl ?_
          refine g_aload_n hC dL_law_1356 0 rfl gRef_r 1357 rfl ?_
          refine g_iload_n hC dL_law_1357 3 rfl 1358 rfl ?_
          refine g_iconst hC dL_law_1358 ki_2 1359 rfl ?_
          refine g_iadd hC dL_law_1359 1360 rfl ?_
          refine g_topi (y := nI (6 * j + 2)) (nI_a (a := (6 * j)) (b := 2) (c := (6 * j + 2)) (by omega)) ?_
          refine g_scr hC hX hbz (i := 6 * j + 2) (by omega) hL dL_law_1360 1361 rfl ?_
          refine g_if_eq hC dL_law_1361 1368 rfl 1364 rfl (fun c_2 => ?_) (fun c_2 => ?_)
          · refine g_iconst hC dL_law_1368 ki_0 1369 rfl ?_
            refine g_aload_n hC dL_law_1369 0 rfl gRef_r 1370 rfl ?_
            refine g_iload_n hC dL_law_1370 3 rfl 1371 rfl ?_
            refine g_iconst hC dL_law_1371 ki_3 1372 rfl ?_
            refine g_iadd hC dL_law_1372 1373 rfl ?_
            refine g_topi (y := nI (6 * j + 3)) (nI_a (a := (6 * j)) (b := 3) (c := (6 * j + 3)) (by omega)) ?_
            refine g_scr hC hX hbz (i := 6 * j + 3) (by omega) hL dL_law_1373 1374 rfl ?_
            refine g_aload_n hC dL_law_1374 0 rfl gRef_r 1375 rfl ?_
            refine g_iload_n hC dL_law_1375 3 rfl 1376 rfl ?_
            refine g_iconst hC dL_law_1376 ki_4 1377 rfl ?_
            refine g_iadd hC dL_law_1377 1378 rfl ?_
            refine g_topi (y := nI (6 * j + 4)) (nI_a (a := (6 * j)) (b := 4) (c := (6 * j + 4)) (by omega)) ?_
            refine g_scr hC hX hbz (i := 6 * j + 4) (by omega) hL dL_law_1378 1379 rfl ?_
            refine g_aload_n hC dL_law_1379 0 rfl gRef_r 1380 rfl ?_
            refine g_iload_n hC dL_law_1380 3 rfl 1381 rfl ?_
            refine g_iconst hC dL_law_1381 ki_5 1382 rfl ?_
            refine g_iadd hC dL_law_1382 1383 rfl ?_
            refine g_topi (y := nI (6 * j + 5)) (nI_a (a := (6 * j)) (b := 5) (c := (6 * j + 5)) (by omega)) ?_
            refine g_scr hC hX hbz (i := 6 * j + 5) (by omega) hL dL_law_1383 1384 rfl ?_
            refine g_st (st' := [.int (xs (6 * j + 5)), .int (xs (6 * j + 4)), .int (xs (6 * j + 3)), .int (bI false), .int (xs (6 * j + 1)), .ref m0, .int (-5)]) rfl ?_
            refine g_calliP (g_V (As := [.int (xs (6 * j + 1)), .int (bI false), .int (xs (6 * j + 3)), .int (xs (6 * j + 4)), .int (xs (6 * j + 5))]) (rest := [.int (-5)]) hC mvX8_frameBit q3004 (gOf.of hC.K cI7 hM_3) (met_T_frameBit_0 l G M m0 av asp ak aik atx (nI lc) am (nI mc) aa (nI pc_) ato ga (xs (6 * j + 1)) false (xs (6 * j + 3)) (xs (6 * j + 4)) (xs (6 * j + 5)) hf0 hix hM_3 hM_10) ⟨rfl, rfl⟩ ⟨(Nat.le_of_ble_eq_true rfl), (Nat.le_of_ble_eq_true rfl)⟩ rfl (Nat.le_of_ble_eq_true rfl) dL_law_1384 rfl ⟨(by first | omega | exact Nat.le_of_ble_eq_true rfl | (show _ ≤ 601471; omega) | (show _ ≤ 7291690; omega)), (by first | omega | exact Nat.le_of_ble_eq_true rfl | (show _ ≤ 601471; omega) | (show _ ≤ 7291690; omega))⟩) 1387 rfl (70000 * j + 20000) (by first | omega | exact Nat.le_of_ble_eq_true rfl | (show _ ≤ 601471; omega) | (show _ ≤ 7291690; omega)) ?_
            refine g_icmp_eq hC dL_law_1387 1649 rfl 1390 rfl (fun c_3 => ?_) (fun c_3 => ?_)
            · exact ih M ⟨ta, of, sv, ms, tx, lc, av, asp, ak, aik, atx, am, mc, aa, pc_, ato, t0, t1, f, txf, sp, kf, ik, gm, ga, gt, A, ⟨⟨by omega, by omega⟩, ⟨by omega, by omega⟩, ⟨by omega, by omega⟩, by omega, by omega, by omega, by omega, by omega, by omega⟩, htx, hM_0, hM_1, hM_2, hM_3, hM_4, hM_5, hM_6, hM_7, hM_8, hM_9, hM_10, hM_11, busR.mono hB (by omega), (hS0.mono (by omega)), (hS1.mono (by omega)), hMs⟩
            · exact absurd c_3 (by decide)
          · exact absurd hb2 c_2
        · exact absurd hb2 c_1
      · obtain ⟨i, hi, ei⟩ := pos_n (Int32.not_lt.mp hix)
        have hix2 : 0 ≤ nI i := nI_pos' (by omega)
        refine g_aload_n hC dL_law_1313 1 rfl gRef_r 1314 rfl ?_
        refine g_aload_n hC dL_law_1314 0 rfl gRef_r 1315 rfl ?_
        refine g_iload_n hC dL_law_1315 3 rfl 1316 rfl ?_
        refine g_iconst hC dL_law_1316 ki_1 1317 rfl ?_
        refine g_iadd hC dL_law_1317 1318 rfl ?_
        refine g_topi (y := nI (6 * j + 1)) (nI_a (a := (6 * j)) (b := 1) (c := (6 * j + 1)) (by omega)) ?_
        refine g_scr hC hX hbz (i := 6 * j + 1) (by omega) hL dL_law_1318 1319 rfl ?_
        refine g_aload_n hC dL_law_1319 0 rfl gRef_r 1320 rfl ?_
        refine g_iload_n hC dL_law_1320 3 rfl 1321 rfl ?_
        refine g_iconst hC dL_law_1321 ki_2 1322 rfl ?_
        refine g_iadd hC dL_law_1322 1323 rfl ?_
        refine g_topi (y := nI (6 * j + 2)) (nI_a (a := (6 * j)) (b := 2) (c := (6 * j + 2)) (by omega)) ?_
        refine g_scr hC hX hbz (i := 6 * j + 2) (by omega) hL dL_law_1323 1324 rfl ?_
        refine g_if_eq hC dL_law_1324 1331 rfl 1327 rfl (fun c_4 => ?_) (fun c_4 => ?_)
        · refine g_iconst hC dL_law_1331 ki_0 1332 rfl ?_
          refine g_aload_n hC dL_law_1332 0 rfl gRef_r 1333 rfl ?_
          refine g_iload_n hC dL_law_1333 3 rfl 1334 rfl ?_
          refine g_iconst hC dL_law_1334 ki_3 1335 rfl ?_
          refine g_iadd hC dL_law_1335 1336 rfl ?_
          refine g_topi (y := nI (6 * j + 3)) (nI_a (a := (6 * j)) (b := 3) (c := (6 * j + 3)) (by omega)) ?_
          refine g_scr hC hX hbz (i := 6 * j + 3) (by omega) hL dL_law_1336 1337 rfl ?_
          refine g_topi (y := nI ln) eln ?_
          refine g_aload_n hC dL_law_1337 0 rfl gRef_r 1338 rfl ?_
          refine g_iload_n hC dL_law_1338 3 rfl 1339 rfl ?_
          refine g_iconst hC dL_law_1339 ki_4 1340 rfl ?_
          refine g_iadd hC dL_law_1340 1341 rfl ?_
          refine g_topi (y := nI (6 * j + 4)) (nI_a (a := (6 * j)) (b := 4) (c := (6 * j + 4)) (by omega)) ?_
          refine g_scr hC hX hbz (i := 6 * j + 4) (by omega) hL dL_law_1341 1342 rfl ?_
          refine g_aload_n hC dL_law_1342 0 rfl gRef_r 1343 rfl ?_
          refine g_iload_n hC dL_law_1343 3 rfl 1344 rfl ?_
          refine g_iconst hC dL_law_1344 ki_5 1345 rfl ?_
          refine g_iadd hC dL_law_1345 1346 rfl ?_
          refine g_topi (y := nI (6 * j + 5)) (nI_a (a := (6 * j)) (b := 5) (c := (6 * j + 5)) (by omega)) ?_
          refine g_scr hC hX hbz (i := 6 * j + 5) (by omega) hL dL_law_1346 1347 rfl ?_
          refine g_topi (y := nI i) ei ?_
          refine g_st (st' := [.int (nI i), .int (xs (6 * j + 4)), .int (nI ln), .int (bI false), .int (xs (6 * j + 1)), .ref x]) rfl ?_
          refine g_calli (g_V (As := [.int (xs (6 * j + 1)), .int (bI false), .int (nI ln), .int (xs (6 * j + 4)), .int (nI i)]) (rest := []) hC mvX0_frameBit q2608 (gOf.of hC.K cI0 hM_0) (met_X_frameBit l G M x ga (xs (6 * j + 1)) false ln (xs (6 * j + 4)) i hf hln hi) ⟨rfl, rfl⟩ ⟨(Nat.le_of_ble_eq_true rfl), (Nat.le_of_ble_eq_true rfl)⟩ rfl (Nat.le_of_ble_eq_true rfl) dL_law_1347 rfl ⟨(by first | omega | exact Nat.le_of_ble_eq_true rfl | (show _ ≤ 601471; omega) | (show _ ≤ 7291690; omega)), (by first | omega | exact Nat.le_of_ble_eq_true rfl | (show _ ≤ 601471; omega) | (show _ ≤ 7291690; omega))⟩) (9200 * j + 300 + 222) (by first | omega | exact Nat.le_of_ble_eq_true rfl | (show _ ≤ 601471; omega) | (show _ ≤ 7291690; omega)) (70000 * j + 20000 + 506) (by first | omega | exact Nat.le_of_ble_eq_true rfl | (show _ ≤ 601471; omega) | (show _ ≤ 7291690; omega)) 1350 rfl (fun r8 M5 k6 hp7 => ?_)
          obtain ⟨rfl, hF9, hk10⟩ := hp7
          refine g_aload_n hC dL_law_1350 2 rfl gRef_r 1351 rfl ?_
          refine g_aload_n hC dL_law_1351 0 rfl gRef_r 1352 rfl ?_
          refine g_iload_n hC dL_law_1352 3 rfl 1353 rfl ?_
          refine g_iconst hC dL_law_1353 ki_1 1354 rfl ?_
          refine g_iadd hC dL_law_1354 1355 rfl ?_
          refine g_topi (y := nI (6 * j + 1)) (nI_a (a := (6 * j)) (b := 1) (c := (6 * j + 1)) (by omega)) ?_
          refine g_scr hC hX hbz (i := 6 * j + 1) (by omega) hL dL_law_1355 1356 rfl ?_
          refine g_aload_n hC dL_law_1356 0 rfl gRef_r 1357 rfl ?_
          refine g_iload_n hC dL_law_1357 3 rfl 1358 rfl ?_
          refine g_iconst hC dL_law_1358 ki_2 1359 rfl ?_
          refine g_iadd hC dL_law_1359 1360 rfl ?_
          refine g_topi (y := nI (6 * j + 2)) (nI_a (a := (6 * j)) (b := 2) (c := (6 * j + 2)) (by omega)) ?_
          refine g_scr hC hX hbz (i := 6 * j + 2) (by omega) hL dL_law_1360 1361 rfl ?_
          refine g_if_eq hC dL_law_1361 1368 rfl 1364 rfl (fun c_11 => ?_) (fun c_11 => ?_)
          · refine g_iconst hC dL_law_1368 ki_0 1369 rfl ?_
            refine g_aload_n hC dL_law_1369 0 rfl gRef_r 1370 rfl ?_
            refine g_iload_n hC dL_law_1370 3 rfl 1371 rfl ?_
            refine g_iconst hC dL_law_1371 ki_3 1372 rfl ?_
            refine g_iadd hC dL_law_1372 1373 rfl ?_
            refine g_topi (y := nI (6 * j + 3)) (nI_a (a := (6 * j)) (b := 3) (c := (6 * j + 3)) (by omega)) ?_
            refine g_scr hC hX hbz (i := 6 * j + 3) (by omega) hL dL_law_1373 1374 rfl ?_
            refine g_topi (y := nI ln) eln ?_
            refine g_aload_n hC dL_law_1374 0 rfl gRef_r 1375 rfl ?_
            refine g_iload_n hC dL_law_1375 3 rfl 1376 rfl ?_
            refine g_iconst hC dL_law_1376 ki_4 1377 rfl ?_
            refine g_iadd hC dL_law_1377 1378 rfl ?_
            refine g_topi (y := nI (6 * j + 4)) (nI_a (a := (6 * j)) (b := 4) (c := (6 * j + 4)) (by omega)) ?_
            refine g_scr hC hX hbz (i := 6 * j + 4) (by omega) hL dL_law_1378 1379 rfl ?_
            refine g_aload_n hC dL_law_1379 0 rfl gRef_r 1380 rfl ?_
            refine g_iload_n hC dL_law_1380 3 rfl 1381 rfl ?_
            refine g_iconst hC dL_law_1381 ki_5 1382 rfl ?_
            refine g_iadd hC dL_law_1382 1383 rfl ?_
            refine g_topi (y := nI (6 * j + 5)) (nI_a (a := (6 * j)) (b := 5) (c := (6 * j + 5)) (by omega)) ?_
            refine g_scr hC hX hbz (i := 6 * j + 5) (by omega) hL dL_law_1383 1384 rfl ?_
            refine g_topi (y := nI i) ei ?_
            refine g_st (st' := [.int (nI i), .int (xs (6 * j + 4)), .int (nI ln), .int (bI false), .int (xs (6 * j + 1)), .ref m0, .int (obT (laysT ga 0 (xs (6 * j + 1)) false ln (xs (6 * j + 4))) (byF false ln + 34) (nI i) (2 * (byF false ln + 34) + 2) 0 0 0 (-1))]) rfl ?_
            refine g_calli (g_V (As := [.int (xs (6 * j + 1)), .int (bI false), .int (nI ln), .int (xs (6 * j + 4)), .int (nI i)]) (rest := [.int (obT (laysT ga 0 (xs (6 * j + 1)) false ln (xs (6 * j + 4))) (byF false ln + 34) (nI i) (2 * (byF false ln + 34) + 2) 0 0 0 (-1))]) hC mvX8_frameBit q3004 (gOf.of hC.K cI7 (hF9 _ _ _ hM_3 (show ¬ (tgR 9 8 16) (1, 0) by (try simp only [ndT, tgE, gT, tgR, ndT9, ndW, tg0, Prod.mk.injEq, true_and, and_true, cpyT, msT]); first | done | omega | (simp; done) | simp_all))) (met_T_frameBit l G M5 m0 av asp ak aik atx (nI lc) am (nI mc) aa (nI pc_) ato ga (xs (6 * j + 1)) false ln (xs (6 * j + 4)) (nI i) hf hln hix2 (hF9 _ _ _ hM_3 (show ¬ (tgR 9 8 16) (1, 0) by (try simp only [ndT, tgE, gT, tgR, ndT9, ndW, tg0, Prod.mk.injEq, true_and, and_true, cpyT, msT]); first | done | omega | (simp; done) | simp_all)) (hF9 _ _ _ hM_10 (show ¬ (tgR 9 8 16) (1, 7) by (try simp only [ndT, tgE, gT, tgR, ndT9, ndW, tg0, Prod.mk.injEq, true_and, and_true, cpyT, msT]); first | done | omega | (simp; done) | simp_all))) ⟨rfl, rfl⟩ ⟨(Nat.le_of_ble_eq_true rfl), (Nat.le_of_ble_eq_true rfl)⟩ rfl (Nat.le_of_ble_eq_true rfl) dL_law_1384 rfl ⟨(by first | omega | exact Nat.le_of_ble_eq_true rfl | (show _ ≤ 601471; omega) | (show _ ≤ 7291690; omega)), (by first | omega | exact Nat.le_of_ble_eq_true rfl | (show _ ≤ 601471; omega) | (show _ ≤ 7291690; omega))⟩) (9200 * j + 300 + 222) (by first | omega | exact Nat.le_of_ble_eq_true rfl | (show _ ≤ 601471; omega) | (show _ ≤ 7291690; omega)) (70000 * j + 20000 + 506) (by first | omega | exact Nat.le_of_ble_eq_true rfl | (show _ ≤ 601471; omega) | (show _ ≤ 7291690; omega)) 1387 rfl (fun r15 M12 k13 hp14 => ?_)
            obtain ⟨rfl, hc16, hF17, hk18⟩ := hp14
            obtain ⟨F19, eF20⟩ : ∃ z9, z9 = laysT ga 0 (xs (6 * j + 1)) false ln (xs (6 * j + 4)) := ⟨_, rfl⟩
            rw [← eF20] at hc16
            refine g_icmp_eq hC dL_law_1387 1649 rfl 1390 rfl (fun c_21 => ?_) (fun c_21 => ?_)
            · exact ih M12 ⟨ta, of, sv, ms, tx, lc, av, asp, ak, aik, atx, am, mc, aa, pc_, ato, t0, t1, f, txf, sp, kf, ik, gm, F19, gt, A, ⟨⟨by omega, by omega⟩, ⟨by omega, by omega⟩, ⟨by omega, by omega⟩, by omega, by omega, by omega, by omega, by omega, by omega⟩, htx, (hF17 _ _ _ (hF9 _ _ _ hM_0 (show ¬ (tgR 9 8 16) (8, 0) by (try simp only [ndT, tgE, gT, tgR, ndT9, ndW, tg0, Prod.mk.injEq, true_and, and_true, cpyT, msT]); first | done | omega | (simp; done) | simp_all)) (gno (gne_oa (hF9 _ _ _ hM_0 (show ¬ (tgR 9 8 16) (8, 0) by (try simp only [ndT, tgE, gT, tgR, ndT9, ndW, tg0, Prod.mk.injEq, true_and, and_true, cpyT, msT]); first | done | omega | (simp; done) | simp_all)) (hF9 _ _ _ hM_10 (show ¬ (tgR 9 8 16) (1, 7) by (try simp only [ndT, tgE, gT, tgR, ndT9, ndW, tg0, Prod.mk.injEq, true_and, and_true, cpyT, msT]); first | done | omega | (simp; done) | simp_all))) gno0)), (hF17 _ _ _ (hF9 _ _ _ hM_1 (show ¬ (tgR 9 8 16) (8, 1) by (try simp only [ndT, tgE, gT, tgR, ndT9, ndW, tg0, Prod.mk.injEq, true_and, and_true, cpyT, msT]); first | done | omega | (simp; done) | simp_all)) (gno (gne_t (hF9 _ _ _ hM_1 (show ¬ (tgR 9 8 16) (8, 1) by (try simp only [ndT, tgE, gT, tgR, ndT9, ndW, tg0, Prod.mk.injEq, true_and, and_true, cpyT, msT]); first | done | omega | (simp; done) | simp_all)) (hF9 _ _ _ hM_10 (show ¬ (tgR 9 8 16) (1, 7) by (try simp only [ndT, tgE, gT, tgR, ndT9, ndW, tg0, Prod.mk.injEq, true_and, and_true, cpyT, msT]); first | done | omega | (simp; done) | simp_all)) (by first | assumption | decide | (intro h; simp only [Prod.mk.injEq] at h; omega) | simp | (intro h; simp at h))) gno0)), (hF17 _ _ _ (hF9 _ _ _ hM_2 (show ¬ (tgR 9 8 16) (8, 5) by (try simp only [ndT, tgE, gT, tgR, ndT9, ndW, tg0, Prod.mk.injEq, true_and, and_true, cpyT, msT]); first | done | omega | (simp; done) | simp_all)) (gno (gne_t (hF9 _ _ _ hM_2 (show ¬ (tgR 9 8 16) (8, 5) by (try simp only [ndT, tgE, gT, tgR, ndT9, ndW, tg0, Prod.mk.injEq, true_and, and_true, cpyT, msT]); first | done | omega | (simp; done) | simp_all)) (hF9 _ _ _ hM_10 (show ¬ (tgR 9 8 16) (1, 7) by (try simp only [ndT, tgE, gT, tgR, ndT9, ndW, tg0, Prod.mk.injEq, true_and, and_true, cpyT, msT]); first | done | omega | (simp; done) | simp_all)) (by first | assumption | decide | (intro h; simp only [Prod.mk.injEq] at h; omega) | simp | (intro h; simp at h))) gno0)), (hF17 _ _ _ (hF9 _ _ _ hM_3 (show ¬ (tgR 9 8 16) (1, 0) by (try simp only [ndT, tgE, gT, tgR, ndT9, ndW, tg0, Prod.mk.injEq, true_and, and_true, cpyT, msT]); first | done | omega | (simp; done) | simp_all)) (gno (gne_oa (hF9 _ _ _ hM_3 (show ¬ (tgR 9 8 16) (1, 0) by (try simp only [ndT, tgE, gT, tgR, ndT9, ndW, tg0, Prod.mk.injEq, true_and, and_true, cpyT, msT]); first | done | omega | (simp; done) | simp_all)) (hF9 _ _ _ hM_10 (show ¬ (tgR 9 8 16) (1, 7) by (try simp only [ndT, tgE, gT, tgR, ndT9, ndW, tg0, Prod.mk.injEq, true_and, and_true, cpyT, msT]); first | done | omega | (simp; done) | simp_all))) gno0)), (hF17 _ _ _ (hF9 _ _ _ hM_4 (show ¬ (tgR 9 8 16) (1, 1) by (try simp only [ndT, tgE, gT, tgR, ndT9, ndW, tg0, Prod.mk.injEq, true_and, and_true, cpyT, msT]); first | done | omega | (simp; done) | simp_all)) (gno (gne_t (hF9 _ _ _ hM_4 (show ¬ (tgR 9 8 16) (1, 1) by (try simp only [ndT, tgE, gT, tgR, ndT9, ndW, tg0, Prod.mk.injEq, true_and, and_true, cpyT, msT]); first | done | omega | (simp; done) | simp_all)) (hF9 _ _ _ hM_10 (show ¬ (tgR 9 8 16) (1, 7) by (try simp only [ndT, tgE, gT, tgR, ndT9, ndW, tg0, Prod.mk.injEq, true_and, and_true, cpyT, msT]); first | done | omega | (simp; done) | simp_all)) (by first | assumption | decide | (intro h; simp only [Prod.mk.injEq] at h; omega) | simp | (intro h; simp at h))) gno0)), (hF17 _ _ _ (hF9 _ _ _ hM_5 (show ¬ (tgR 9 8 16) (1, 2) by (try simp only [ndT, tgE, gT, tgR, ndT9, ndW, tg0, Prod.mk.injEq, true_and, and_true, cpyT, msT]); first | done | omega | (simp; done) | simp_all)) (gno (gne_t (hF9 _ _ _ hM_5 (show ¬ (tgR 9 8 16) (1, 2) by (try simp only [ndT, tgE, gT, tgR, ndT9, ndW, tg0, Prod.mk.injEq, true_and, and_true, cpyT, msT]); first | done | omega | (simp; done) | simp_all)) (hF9 _ _ _ hM_10 (show ¬ (tgR 9 8 16) (1, 7) by (try simp only [ndT, tgE, gT, tgR, ndT9, ndW, tg0, Prod.mk.injEq, true_and, and_true, cpyT, msT]); first | done | omega | (simp; done) | simp_all)) (by first | assumption | decide | (intro h; simp only [Prod.mk.injEq] at h; omega) | simp | (intro h; simp at h))) gno0)), (hF17 _ _ _ (hF9 _ _ _ hM_6 (show ¬ (tgR 9 8 16) (1, 3) by (try simp only [ndT, tgE, gT, tgR, ndT9, ndW, tg0, Prod.mk.injEq, true_and, and_true, cpyT, msT]); first | done | omega | (simp; done) | simp_all)) (gno (gne_t (hF9 _ _ _ hM_6 (show ¬ (tgR 9 8 16) (1, 3) by (try simp only [ndT, tgE, gT, tgR, ndT9, ndW, tg0, Prod.mk.injEq, true_and, and_true, cpyT, msT]); first | done | omega | (simp; done) | simp_all)) (hF9 _ _ _ hM_10 (show ¬ (tgR 9 8 16) (1, 7) by (try simp only [ndT, tgE, gT, tgR, ndT9, ndW, tg0, Prod.mk.injEq, true_and, and_true, cpyT, msT]); first | done | omega | (simp; done) | simp_all)) (by first | assumption | decide | (intro h; simp only [Prod.mk.injEq] at h; omega) | simp | (intro h; simp at h))) gno0)), (hF17 _ _ _ (hF9 _ _ _ hM_7 (show ¬ (tgR 9 8 16) (1, 4) by (try simp only [ndT, tgE, gT, tgR, ndT9, ndW, tg0, Prod.mk.injEq, true_and, and_true, cpyT, msT]); first | done | omega | (simp; done) | simp_all)) (gno (gne_t (hF9 _ _ _ hM_7 (show ¬ (tgR 9 8 16) (1, 4) by (try simp only [ndT, tgE, gT, tgR, ndT9, ndW, tg0, Prod.mk.injEq, true_and, and_true, cpyT, msT]); first | done | omega | (simp; done) | simp_all)) (hF9 _ _ _ hM_10 (show ¬ (tgR 9 8 16) (1, 7) by (try simp only [ndT, tgE, gT, tgR, ndT9, ndW, tg0, Prod.mk.injEq, true_and, and_true, cpyT, msT]); first | done | omega | (simp; done) | simp_all)) (by first | assumption | decide | (intro h; simp only [Prod.mk.injEq] at h; omega) | simp | (intro h; simp at h))) gno0)), (hF17 _ _ _ (hF9 _ _ _ hM_8 (show ¬ (tgR 9 8 16) (1, 5) by (try simp only [ndT, tgE, gT, tgR, ndT9, ndW, tg0, Prod.mk.injEq, true_and, and_true, cpyT, msT]); first | done | omega | (simp; done) | simp_all)) (gno (gne_t (hF9 _ _ _ hM_8 (show ¬ (tgR 9 8 16) (1, 5) by (try simp only [ndT, tgE, gT, tgR, ndT9, ndW, tg0, Prod.mk.injEq, true_and, and_true, cpyT, msT]); first | done | omega | (simp; done) | simp_all)) (hF9 _ _ _ hM_10 (show ¬ (tgR 9 8 16) (1, 7) by (try simp only [ndT, tgE, gT, tgR, ndT9, ndW, tg0, Prod.mk.injEq, true_and, and_true, cpyT, msT]); first | done | omega | (simp; done) | simp_all)) (by first | assumption | decide | (intro h; simp only [Prod.mk.injEq] at h; omega) | simp | (intro h; simp at h))) gno0)), (hF17 _ _ _ (hF9 _ _ _ hM_9 (show ¬ (tgR 9 8 16) (1, 6) by (try simp only [ndT, tgE, gT, tgR, ndT9, ndW, tg0, Prod.mk.injEq, true_and, and_true, cpyT, msT]); first | done | omega | (simp; done) | simp_all)) (gno (gne_t (hF9 _ _ _ hM_9 (show ¬ (tgR 9 8 16) (1, 6) by (try simp only [ndT, tgE, gT, tgR, ndT9, ndW, tg0, Prod.mk.injEq, true_and, and_true, cpyT, msT]); first | done | omega | (simp; done) | simp_all)) (hF9 _ _ _ hM_10 (show ¬ (tgR 9 8 16) (1, 7) by (try simp only [ndT, tgE, gT, tgR, ndT9, ndW, tg0, Prod.mk.injEq, true_and, and_true, cpyT, msT]); first | done | omega | (simp; done) | simp_all)) (by first | assumption | decide | (intro h; simp only [Prod.mk.injEq] at h; omega) | simp | (intro h; simp at h))) gno0)), hc16, (hF17 _ _ _ (hF9 _ _ _ hM_11 (show ¬ (tgR 9 8 16) (1, 8) by (try simp only [ndT, tgE, gT, tgR, ndT9, ndW, tg0, Prod.mk.injEq, true_and, and_true, cpyT, msT]); first | done | omega | (simp; done) | simp_all)) (gno (gne_t (hF9 _ _ _ hM_11 (show ¬ (tgR 9 8 16) (1, 8) by (try simp only [ndT, tgE, gT, tgR, ndT9, ndW, tg0, Prod.mk.injEq, true_and, and_true, cpyT, msT]); first | done | omega | (simp; done) | simp_all)) (hF9 _ _ _ hM_10 (show ¬ (tgR 9 8 16) (1, 7) by (try simp only [ndT, tgE, gT, tgR, ndT9, ndW, tg0, Prod.mk.injEq, true_and, and_true, cpyT, msT]); first | done | omega | (simp; done) | simp_all)) (by first | assumption | decide | (intro h; simp only [Prod.mk.injEq] at h; omega) | simp | (intro h; simp at h))) gno0)), (by try rw [eF20]; exact busR.mono (busR.fr hB ((gFr.refl.trans (hF9.mono (fun b t h => by obtain ⟨u9, v9⟩ := t; revert h; (try simp only [ndT, tgE, gT, tgR, ndT9, ndW, tg0, Prod.mk.injEq, true_and, and_true, cpyT, msT]); first | done | omega | (simp; done) | (intro h; simp_all; done)))).trf hF17 (fun b t e hb hn => (gno (gne_t ((gFr.refl.trans (hF9.mono (fun b t h => by obtain ⟨u9, v9⟩ := t; revert h; (try simp only [ndT, tgE, gT, tgR, ndT9, ndW, tg0, Prod.mk.injEq, true_and, and_true, cpyT, msT]); first | done | omega | (simp; done) | (intro h; simp_all; done)))) b t e hb hn) (hF9 _ _ _ hM_10 (show ¬ (tgR 9 8 16) (1, 7) by (try simp only [ndT, tgE, gT, tgR, ndT9, ndW, tg0, Prod.mk.injEq, true_and, and_true, cpyT, msT]); first | done | omega | (simp; done) | simp_all)) (fun q => hn (by rw [q]; exact (show (fun t => ¬ (fun t => t.1 = ta ∨ tg0 t) t) (1, 7) by (try simp only [ndT, tgE, gT, tgR, ndT9, ndW, tg0, Prod.mk.injEq, true_and, and_true, cpyT, msT]); first | done | omega | (simp; done))))) gno0)))) (by omega)), ((sv1.fr hS0 ((gFr.refl.trans (hF9.mono (fun b t h => by obtain ⟨u9, v9⟩ := t; revert h; (try simp only [ndT, tgE, gT, tgR, ndT9, ndW, tg0, Prod.mk.injEq, true_and, and_true, cpyT, msT]); first | done | omega | (simp; done) | (intro h; simp_all; done)))).trf hF17 (fun b t e hb hn => (gno (gne_t ((gFr.refl.trans (hF9.mono (fun b t h => by obtain ⟨u9, v9⟩ := t; revert h; (try simp only [ndT, tgE, gT, tgR, ndT9, ndW, tg0, Prod.mk.injEq, true_and, and_true, cpyT, msT]); first | done | omega | (simp; done) | (intro h; simp_all; done)))) b t e hb hn) (hF9 _ _ _ hM_10 (show ¬ (tgR 9 8 16) (1, 7) by (try simp only [ndT, tgE, gT, tgR, ndT9, ndW, tg0, Prod.mk.injEq, true_and, and_true, cpyT, msT]); first | done | omega | (simp; done) | simp_all)) (fun q => hn (by rw [q]; exact (show (fun t => ¬ (fun t => t.1 = t0 ∨ tg0 t) t) (1, 7) by (try simp only [ndT, tgE, gT, tgR, ndT9, ndW, tg0, Prod.mk.injEq, true_and, and_true, cpyT, msT]); first | done | omega | (simp; done))))) gno0)))).mono (by omega)), ((sv1.fr hS1 ((gFr.refl.trans (hF9.mono (fun b t h => by obtain ⟨u9, v9⟩ := t; revert h; (try simp only [ndT, tgE, gT, tgR, ndT9, ndW, tg0, Prod.mk.injEq, true_and, and_true, cpyT, msT]); first | done | omega | (simp; done) | (intro h; simp_all; done)))).trf hF17 (fun b t e hb hn => (gno (gne_t ((gFr.refl.trans (hF9.mono (fun b t h => by obtain ⟨u9, v9⟩ := t; revert h; (try simp only [ndT, tgE, gT, tgR, ndT9, ndW, tg0, Prod.mk.injEq, true_and, and_true, cpyT, msT]); first | done | omega | (simp; done) | (intro h; simp_all; done)))) b t e hb hn) (hF9 _ _ _ hM_10 (show ¬ (tgR 9 8 16) (1, 7) by (try simp only [ndT, tgE, gT, tgR, ndT9, ndW, tg0, Prod.mk.injEq, true_and, and_true, cpyT, msT]); first | done | omega | (simp; done) | simp_all)) (fun q => hn (by rw [q]; exact (show (fun t => ¬ (fun t => t.1 = t1 ∨ tg0 t) t) (1, 7) by (try simp only [ndT, tgE, gT, tgR, ndT9, ndW, tg0, Prod.mk.injEq, true_and, and_true, cpyT, msT]); first | done | omega | (simp; done))))) gno0)))).mono (by omega)), (by try rw [eF20]; exact (msR.fr hMs ((gFr.refl.trans (hF9.mono (fun b t h => by obtain ⟨u9, v9⟩ := t; revert h; (try simp only [ndT, tgE, gT, tgR, ndT9, ndW, tg0, Prod.mk.injEq, true_and, and_true, cpyT, msT]); first | done | omega | (simp; done) | (intro h; simp_all; done)))).trf hF17 (fun b t e hb hn => (gno (gne_t ((gFr.refl.trans (hF9.mono (fun b t h => by obtain ⟨u9, v9⟩ := t; revert h; (try simp only [ndT, tgE, gT, tgR, ndT9, ndW, tg0, Prod.mk.injEq, true_and, and_true, cpyT, msT]); first | done | omega | (simp; done) | (intro h; simp_all; done)))) b t e hb hn) (hF9 _ _ _ hM_10 (show ¬ (tgR 9 8 16) (1, 7) by (try simp only [ndT, tgE, gT, tgR, ndT9, ndW, tg0, Prod.mk.injEq, true_and, and_true, cpyT, msT]); first | done | omega | (simp; done) | simp_all)) (fun q => hn (by rw [q]; exact (show (fun t => ¬ msT t) (1, 7) by (try simp only [ndT, tgE, gT, tgR, ndT9, ndW, tg0, Prod.mk.injEq, true_and, and_true, cpyT, msT]); first | done | omega | (simp; done))))) gno0)))))⟩
            · exact absurd rfl c_21
          · exact absurd hb2 c_11
        · exact absurd hb2 c_4
    · refine g_aload_n hC dL_law_1313 1 rfl gRef_r 1314 rfl ?_
      refine g_aload_n hC dL_law_1314 0 rfl gRef_r 1315 rfl ?_
      refine g_iload_n hC dL_law_1315 3 rfl 1316 rfl ?_
      refine g_iconst hC dL_law_1316 ki_1 1317 rfl ?_
      refine g_iadd hC dL_law_1317 1318 rfl ?_
      refine g_topi (y := nI (6 * j + 1)) (nI_a (a := (6 * j)) (b := 1) (c := (6 * j + 1)) (by omega)) ?_
      refine g_scr hC hX hbz (i := 6 * j + 1) (by omega) hL dL_law_1318 1319 rfl ?_
      refine g_aload_n hC dL_law_1319 0 rfl gRef_r 1320 rfl ?_
      refine g_iload_n hC dL_law_1320 3 rfl 1321 rfl ?_
      refine g_iconst hC dL_law_1321 ki_2 1322 rfl ?_
      refine g_iadd hC dL_law_1322 1323 rfl ?_
      refine g_topi (y := nI (6 * j + 2)) (nI_a (a := (6 * j)) (b := 2) (c := (6 * j + 2)) (by omega)) ?_
      refine g_scr hC hX hbz (i := 6 * j + 2) (by omega) hL dL_law_1323 1324 rfl ?_
      refine g_if_eq hC dL_law_1324 1331 rfl 1327 rfl (fun c_22 => ?_) (fun c_22 => ?_)
      · refine g_iconst hC dL_law_1331 ki_0 1332 rfl ?_
        refine g_aload_n hC dL_law_1332 0 rfl gRef_r 1333 rfl ?_
        refine g_iload_n hC dL_law_1333 3 rfl 1334 rfl ?_
        refine g_iconst hC dL_law_1334 ki_3 1335 rfl ?_
        refine g_iadd hC dL_law_1335 1336 rfl ?_
        refine g_topi (y := nI (6 * j + 3)) (nI_a (a := (6 * j)) (b := 3) (c := (6 * j + 3)) (by omega)) ?_
        refine g_scr hC hX hbz (i := 6 * j + 3) (by omega) hL dL_law_1336 1337 rfl ?_
        refine g_aload_n hC dL_law_1337 0 rfl gRef_r 1338 rfl ?_
        refine g_iload_n hC dL_law_1338 3 rfl 1339 rfl ?_
        refine g_iconst hC dL_law_1339 ki_4 1340 rfl ?_
        refine g_iadd hC dL_law_1340 1341 rfl ?_
        refine g_topi (y := nI (6 * j + 4)) (nI_a (a := (6 * j)) (b := 4) (c := (6 * j + 4)) (by omega)) ?_
        refine g_scr hC hX hbz (i := 6 * j + 4) (by omega) hL dL_law_1341 1342 rfl ?_
        refine g_aload_n hC dL_law_1342 0 rfl gRef_r 1343 rfl ?_
        refine g_iload_n hC dL_law_1343 3 rfl 1344 rfl ?_
        refine g_iconst hC dL_law_1344 ki_5 1345 rfl ?_
        refine g_iadd hC dL_law_1345 1346 rfl ?_
        refine g_topi (y := nI (6 * j + 5)) (nI_a (a := (6 * j)) (b := 5) (c := (6 * j + 5)) (by omega)) ?_
        refine g_scr hC hX hbz (i := 6 * j + 5) (by omega) hL dL_law_1346 1347 rfl ?_
        refine g_st (st' := [.int (xs (6 * j + 5)), .int (xs (6 * j + 4)), .int (xs (6 * j + 3)), .int (bI false), .int (xs (6 * j + 1)), .ref x]) rfl ?_
        refine g_calliP (g_V (As := [.int (xs (6 * j + 1)), .int (bI false), .int (xs (6 * j + 3)), .int (xs (6 * j + 4)), .int (xs (6 * j + 5))]) (rest := []) hC mvX0_frameBit q2608 (gOf.of hC.K cI0 hM_0) (met_X_frameBit_n l G M x (xs (6 * j + 1)) false (xs (6 * j + 3)) (xs (6 * j + 4)) (xs (6 * j + 5)) hf) ⟨rfl, rfl⟩ ⟨(Nat.le_of_ble_eq_true rfl), (Nat.le_of_ble_eq_true rfl)⟩ rfl (Nat.le_of_ble_eq_true rfl) dL_law_1347 rfl ⟨(by first | omega | exact Nat.le_of_ble_eq_true rfl | (show _ ≤ 601471; omega) | (show _ ≤ 7291690; omega)), (by first | omega | exact Nat.le_of_ble_eq_true rfl | (show _ ≤ 601471; omega) | (show _ ≤ 7291690; omega))⟩) 1350 rfl (70000 * j + 20000) (by first | omega | exact Nat.le_of_ble_eq_true rfl | (show _ ≤ 601471; omega) | (show _ ≤ 7291690; omega)) ?_
        refine g_aload_n hC dL_law_1350 2 rfl gRef_r 1351 rfl ?_
        refine g_aload_n hC dL_law_1351 0 rfl gRef_r 1352 rfl ?_
        refine g_iload_n hC dL_law_1352 3 rfl 1353 rfl ?_
        refine g_iconst hC dL_law_1353 ki_1 1354 rfl ?_
        refine g_iadd hC dL_law_1354 1355 rfl ?_
        refine g_topi (y := nI (6 * j + 1)) (nI_a (a := (6 * j)) (b := 1) (c := (6 * j + 1)) (by omega)) ?_
        refine g_scr hC hX hbz (i := 6 * j + 1) (by omega) hL dL_law_1355 1356 rfl ?_
        refine g_aload_n hC dL_law_1356 0 rfl gRef_r 1357 rfl ?_
        refine g_iload_n hC dL_law_1357 3 rfl 1358 rfl ?_
        refine g_iconst hC dL_law_1358 ki_2 1359 rfl ?_
        refine g_iadd hC dL_law_1359 1360 rfl ?_
        refine g_topi (y := nI (6 * j + 2)) (nI_a (a := (6 * j)) (b := 2) (c := (6 * j + 2)) (by omega)) ?_
        refine g_scr hC hX hbz (i := 6 * j + 2) (by omega) hL dL_law_1360 1361 rfl ?_
        refine g_if_eq hC dL_law_1361 1368 rfl 1364 rfl (fun c_23 => ?_) (fun c_23 => ?_)
        · refine g_iconst hC dL_law_1368 ki_0 1369 rfl ?_
          refine g_aload_n hC dL_law_1369 0 rfl gRef_r 1370 rfl ?_
          refine g_iload_n hC dL_law_1370 3 rfl 1371 rfl ?_
          refine g_iconst hC dL_law_1371 ki_3 1372 rfl ?_
          refine g_iadd hC dL_law_1372 1373 rfl ?_
          refine g_topi (y := nI (6 * j + 3)) (nI_a (a := (6 * j)) (b := 3) (c := (6 * j + 3)) (by omega)) ?_
          refine g_scr hC hX hbz (i := 6 * j + 3) (by omega) hL dL_law_1373 1374 rfl ?_
          refine g_aload_n hC dL_law_1374 0 rfl gRef_r 1375 rfl ?_
          refine g_iload_n hC dL_law_1375 3 rfl 1376 rfl ?_
          refine g_iconst hC dL_law_1376 ki_4 1377 rfl ?_
          refine g_iadd hC dL_law_1377 1378 rfl ?_
          refine g_topi (y := nI (6 * j + 4)) (nI_a (a := (6 * j)) (b := 4) (c := (6 * j + 4)) (by omega)) ?_
          refine g_scr hC hX hbz (i := 6 * j + 4) (by omega) hL dL_law_1378 1379 rfl ?_
          refine g_aload_n hC dL_law_1379 0 rfl gRef_r 1380 rfl ?_
          refine g_iload_n hC dL_law_1380 3 rfl 1381 rfl ?_
          refine g_iconst hC dL_law_1381 ki_5 1382 rfl ?_
          refine g_iadd hC dL_law_1382 1383 rfl ?_
          refine g_topi (y := nI (6 * j + 5)) (nI_a (a := (6 * j)) (b := 5) (c := (6 * j + 5)) (by omega)) ?_
          refine g_scr hC hX hbz (i := 6 * j + 5) (by omega) hL dL_law_1383 1384 rfl ?_
          refine g_st (st' := [.int (xs (6 * j + 5)), .int (xs (6 * j + 4)), .int (xs (6 * j + 3)), .int (bI false), .int (xs (6 * j + 1)), .ref m0, .int (-2)]) rfl ?_
          refine g_calliP (g_V (As := [.int (xs (6 * j + 1)), .int (bI false), .int (xs (6 * j + 3)), .int (xs (6 * j + 4)), .int (xs (6 * j + 5))]) (rest := [.int (-2)]) hC mvX8_frameBit q3004 (gOf.of hC.K cI7 hM_3) (met_T_frameBit_n l G M m0 av asp ak aik atx (nI lc) am (nI mc) aa (nI pc_) ato ga (xs (6 * j + 1)) false (xs (6 * j + 3)) (xs (6 * j + 4)) (xs (6 * j + 5)) hf hM_3 hM_10) ⟨rfl, rfl⟩ ⟨(Nat.le_of_ble_eq_true rfl), (Nat.le_of_ble_eq_true rfl)⟩ rfl (Nat.le_of_ble_eq_true rfl) dL_law_1384 rfl ⟨(by first | omega | exact Nat.le_of_ble_eq_true rfl | (show _ ≤ 601471; omega) | (show _ ≤ 7291690; omega)), (by first | omega | exact Nat.le_of_ble_eq_true rfl | (show _ ≤ 601471; omega) | (show _ ≤ 7291690; omega))⟩) 1387 rfl (70000 * j + 20000) (by first | omega | exact Nat.le_of_ble_eq_true rfl | (show _ ≤ 601471; omega) | (show _ ≤ 7291690; omega)) ?_
          refine g_icmp_eq hC dL_law_1387 1649 rfl 1390 rfl (fun c_24 => ?_) (fun c_24 => ?_)
          · exact ih M ⟨ta, of, sv, ms, tx, lc, av, asp, ak, aik, atx, am, mc, aa, pc_, ato, t0, t1, f, txf, sp, kf, ik, gm, ga, gt, A, ⟨⟨by omega, by omega⟩, ⟨by omega, by omega⟩, ⟨by omega, by omega⟩, by omega, by omega, by omega, by omega, by omega, by omega⟩, htx, hM_0, hM_1, hM_2, hM_3, hM_4, hM_5, hM_6, hM_7, hM_8, hM_9, hM_10, hM_11, busR.mono hB (by omega), (hS0.mono (by omega)), (hS1.mono (by omega)), hMs⟩
          · exact absurd c_24 (by decide)
        · exact absurd hb2 c_23
      · exact absurd hb2 c_22
  · by_cases hf : okF (xs (6 * j + 1)) true (xs (6 * j + 3)) (xs (6 * j + 4))
    · obtain ⟨ln, hln, eln⟩ := ln_n hf.2.1
      rw [eln] at hf
      by_cases hix : xs (6 * j + 5) < 0
      · have hf0 := hf
        rw [← eln] at hf0
        refine g_aload_n hC dL_law_1313 1 rfl gRef_r 1314 rfl ?_
        refine g_aload_n hC dL_law_1314 0 rfl gRef_r 1315 rfl ?_
        refine g_iload_n hC dL_law_1315 3 rfl 1316 rfl ?_
        refine g_iconst hC dL_law_1316 ki_1 1317 rfl ?_
        refine g_iadd hC dL_law_1317 1318 rfl ?_
        refine g_topi (y := nI (6 * j + 1)) (nI_a (a := (6 * j)) (b := 1) (c := (6 * j + 1)) (by omega)) ?_
        refine g_scr hC hX hbz (i := 6 * j + 1) (by omega) hL dL_law_1318 1319 rfl ?_
        refine g_aload_n hC dL_law_1319 0 rfl gRef_r 1320 rfl ?_
        refine g_iload_n hC dL_law_1320 3 rfl 1321 rfl ?_
        refine g_iconst hC dL_law_1321 ki_2 1322 rfl ?_
        refine g_iadd hC dL_law_1322 1323 rfl ?_
        refine g_topi (y := nI (6 * j + 2)) (nI_a (a := (6 * j)) (b := 2) (c := (6 * j + 2)) (by omega)) ?_
        refine g_scr hC hX hbz (i := 6 * j + 2) (by omega) hL dL_law_1323 1324 rfl ?_
        refine g_if_eq hC dL_law_1324 1331 rfl 1327 rfl (fun c_25 => ?_) (fun c_25 => ?_)
        · exact absurd c_25 hb2
        · refine g_iconst hC dL_law_1327 ki_1 1328 rfl ?_
          refine g_goto hC dL_law_1328 1332 rfl ?_
          refine g_aload_n hC dL_law_1332 0 rfl gRef_r 1333 rfl ?_
          refine g_iload_n hC dL_law_1333 3 rfl 1334 rfl ?_
          refine g_iconst hC dL_law_1334 ki_3 1335 rfl ?_
          refine g_iadd hC dL_law_1335 1336 rfl ?_
          refine g_topi (y := nI (6 * j + 3)) (nI_a (a := (6 * j)) (b := 3) (c := (6 * j + 3)) (by omega)) ?_
          refine g_scr hC hX hbz (i := 6 * j + 3) (by omega) hL dL_law_1336 1337 rfl ?_
          refine g_aload_n hC dL_law_1337 0 rfl gRef_r 1338 rfl ?_
          refine g_iload_n hC dL_law_1338 3 rfl 1339 rfl ?_
          refine g_iconst hC dL_law_1339 ki_4 1340 rfl ?_
          refine g_iadd hC dL_law_1340 1341 rfl ?_
          refine g_topi (y := nI (6 * j + 4)) (nI_a (a := (6 * j)) (b := 4) (c := (6 * j + 4)) (by omega)) ?_
          refine g_scr hC hX hbz (i := 6 * j + 4) (by omega) hL dL_law_1341 1342 rfl ?_
          refine g_aload_n hC dL_law_1342 0 rfl gRef_r 1343 rfl ?_
          refine g_iload_n hC dL_law_1343 3 rfl 1344 rfl ?_
          refine g_iconst hC dL_law_1344 ki_5 1345 rfl ?_
          refine g_iadd hC dL_law_1345 1346 rfl ?_
          refine g_topi (y := nI (6 * j + 5)) (nI_a (a := (6 * j)) (b := 5) (c := (6 * j + 5)) (by omega)) ?_
          refine g_scr hC hX hbz (i := 6 * j + 5) (by omega) hL dL_law_1346 1347 rfl ?_
          refine g_st (st' := [.int (xs (6 * j + 5)), .int (xs (6 * j + 4)), .int (xs (6 * j + 3)), .int (bI true), .int (xs (6 * j + 1)), .ref x]) rfl ?_
          refine g_calliP (g_V (As := [.int (xs (6 * j + 1)), .int (bI true), .int (xs (6 * j + 3)), .int (xs (6 * j + 4)), .int (xs (6 * j + 5))]) (rest := []) hC mvX0_frameBit q2608 (gOf.of hC.K cI0 hM_0) (met_X_frameBit_0 l G M x (xs (6 * j + 1)) true (xs (6 * j + 3)) (xs (6 * j + 4)) (xs (6 * j + 5)) hf0 hix) ⟨rfl, rfl⟩ ⟨(Nat.le_of_ble_eq_true rfl), (Nat.le_of_ble_eq_true rfl)⟩ rfl (Nat.le_of_ble_eq_true rfl) dL_law_1347 rfl ⟨(by first | omega | exact Nat.le_of_ble_eq_true rfl | (show _ ≤ 601471; omega) | (show _ ≤ 7291690; omega)), (by first | omega | exact Nat.le_of_ble_eq_true rfl | (show _ ≤ 601471; omega) | (show _ ≤ 7291690; omega))⟩) 1350 rfl (70000 * j + 20000) (by first | omega | exact Nat.le_of_ble_eq_true rfl | (show _ ≤ 601471; omega) | (show _ ≤ 7291690; omega)) ?_
          refine g_aload_n hC dL_law_1350 2 rfl gRef_r 1351 rfl ?_
          refine g_aload_n hC dL_law_1351 0 rfl gRef_r 1352 rfl ?_
          refine g_iload_n hC dL_law_1352 3 rfl 1353 rfl ?_
          refine g_iconst hC dL_law_1353 ki_1 1354 rfl ?_
          refine g_iadd hC dL_law_1354 1355 rfl ?_
          refine g_topi (y := nI (6 * j + 1)) (nI_a (a := (6 * j)) (b := 1) (c := (6 * j + 1)) (by omega)) ?_
          refine g_scr hC hX hbz (i := 6 * j + 1) (by omega) hL dL_law_1355 1356 rfl ?_
          refine g_aload_n hC dL_law_1356 0 rfl gRef_r 1357 rfl ?_
          refine g_iload_n hC dL_law_1357 3 rfl 1358 rfl ?_
          refine g_iconst hC dL_law_1358 ki_2 1359 rfl ?_
          refine g_iadd hC dL_law_1359 1360 rfl ?_
          refine g_topi (y := nI (6 * j + 2)) (nI_a (a := (6 * j)) (b := 2) (c := (6 * j + 2)) (by omega)) ?_
          refine g_scr hC hX hbz (i := 6 * j + 2) (by omega) hL dL_law_1360 1361 rfl ?_
          refine g_if_eq hC dL_law_1361 1368 rfl 1364 rfl (fun c_26 => ?_) (fun c_26 => ?_)
          · exact absurd c_26 hb2
          · refine g_iconst hC dL_law_1364 ki_1 1365 rfl ?_
            refine g_goto hC dL_law_1365 1369 rfl ?_
            refine g_aload_n hC dL_law_1369 0 rfl gRef_r 1370 rfl ?_
            refine g_iload_n hC dL_law_1370 3 rfl 1371 rfl ?_
            refine g_iconst hC dL_law_1371 ki_3 1372 rfl ?_
            refine g_iadd hC dL_law_1372 1373 rfl ?_
            refine g_topi (y := nI (6 * j + 3)) (nI_a (a := (6 * j)) (b := 3) (c := (6 * j + 3)) (by omega)) ?_
            refine g_scr hC hX hbz (i := 6 * j + 3) (by omega) hL dL_law_1373 1374 rfl ?_
            refine g_aload_n hC dL_law_1374 0 rfl gRef_r 1375 rfl ?_
            refine g_iload_n hC dL_law_1375 3 rfl 1376 rfl ?_
            refine g_iconst hC dL_law_1376 ki_4 1377 rfl ?_
            refine g_iadd hC dL_law_1377 1378 rfl ?_
            refine g_topi (y := nI (6 * j + 4)) (nI_a (a := (6 * j)) (b := 4) (c := (6 * j + 4)) (by omega)) ?_
            refine g_scr hC hX hbz (i := 6 * j + 4) (by omega) hL dL_law_1378 1379 rfl ?_
            refine g_aload_n hC dL_law_1379 0 rfl gRef_r 1380 rfl ?_
            refine g_iload_n hC dL_law_1380 3 rfl 1381 rfl ?_
            refine g_iconst hC dL_law_1381 ki_5 1382 rfl ?_
            refine g_iadd hC dL_law_1382 1383 rfl ?_
            refine g_topi (y := nI (6 * j + 5)) (nI_a (a := (6 * j)) (b := 5) (c := (6 * j + 5)) (by omega)) ?_
            refine g_scr hC hX hbz (i := 6 * j + 5) (by omega) hL dL_law_1383 1384 rfl ?_
            refine g_st (st' := [.int (xs (6 * j + 5)), .int (xs (6 * j + 4)), .int (xs (6 * j + 3)), .int (bI true), .int (xs (6 * j + 1)), .ref m0, .int (-5)]) rfl ?_
            refine g_calliP (g_V (As := [.int (xs (6 * j + 1)), .int (bI true), .int (xs (6 * j + 3)), .int (xs (6 * j + 4)), .int (xs (6 * j + 5))]) (rest := [.int (-5)]) hC mvX8_frameBit q3004 (gOf.of hC.K cI7 hM_3) (met_T_frameBit_0 l G M m0 av asp ak aik atx (nI lc) am (nI mc) aa (nI pc_) ato ga (xs (6 * j + 1)) true (xs (6 * j + 3)) (xs (6 * j + 4)) (xs (6 * j + 5)) hf0 hix hM_3 hM_10) ⟨rfl, rfl⟩ ⟨(Nat.le_of_ble_eq_true rfl), (Nat.le_of_ble_eq_true rfl)⟩ rfl (Nat.le_of_ble_eq_true rfl) dL_law_1384 rfl ⟨(by first | omega | exact Nat.le_of_ble_eq_true rfl | (show _ ≤ 601471; omega) | (show _ ≤ 7291690; omega)), (by first | omega | exact Nat.le_of_ble_eq_true rfl | (show _ ≤ 601471; omega) | (show _ ≤ 7291690; omega))⟩) 1387 rfl (70000 * j + 20000) (by first | omega | exact Nat.le_of_ble_eq_true rfl | (show _ ≤ 601471; omega) | (show _ ≤ 7291690; omega)) ?_
            refine g_icmp_eq hC dL_law_1387 1649 rfl 1390 rfl (fun c_27 => ?_) (fun c_27 => ?_)
            · exact ih M ⟨ta, of, sv, ms, tx, lc, av, asp, ak, aik, atx, am, mc, aa, pc_, ato, t0, t1, f, txf, sp, kf, ik, gm, ga, gt, A, ⟨⟨by omega, by omega⟩, ⟨by omega, by omega⟩, ⟨by omega, by omega⟩, by omega, by omega, by omega, by omega, by omega, by omega⟩, htx, hM_0, hM_1, hM_2, hM_3, hM_4, hM_5, hM_6, hM_7, hM_8, hM_9, hM_10, hM_11, busR.mono hB (by omega), (hS0.mono (by omega)), (hS1.mono (by omega)), hMs⟩
            · exact absurd c_27 (by decide)
      · obtain ⟨i, hi, ei⟩ := pos_n (Int32.not_lt.mp hix)
        have hix2 : 0 ≤ nI i := nI_pos' (by omega)
        refine g_aload_n hC dL_law_1313 1 rfl gRef_r 1314 rfl ?_
        refine g_aload_n hC dL_law_1314 0 rfl gRef_r 1315 rfl ?_
        refine g_iload_n hC dL_law_1315 3 rfl 1316 rfl ?_
        refine g_iconst hC dL_law_1316 ki_1 1317 rfl ?_
        refine g_iadd hC dL_law_1317 1318 rfl ?_
        refine g_topi (y := nI (6 * j + 1)) (nI_a (a := (6 * j)) (b := 1) (c := (6 * j + 1)) (by omega)) ?_
        refine g_scr hC hX hbz (i := 6 * j + 1) (by omega) hL dL_law_1318 1319 rfl ?_
        refine g_aload_n hC dL_law_1319 0 rfl gRef_r 1320 rfl ?_
        refine g_iload_n hC dL_law_1320 3 rfl 1321 rfl ?_
        refine g_iconst hC dL_law_1321 ki_2 1322 rfl ?_
        refine g_iadd hC dL_law_1322 1323 rfl ?_
        refine g_topi (y := nI (6 * j + 2)) (nI_a (a := (6 * j)) (b := 2) (c := (6 * j + 2)) (by omega)) ?_
        refine g_scr hC hX hbz (i := 6 * j + 2) (by omega) hL dL_law_1323 1324 rfl ?_
        refine g_if_eq hC dL_law_1324 1331 rfl 1327 rfl (fun c_28 => ?_) (fun c_28 => ?_)
        · exact absurd c_28 hb2
        · refine g_iconst hC dL_law_1327 ki_1 1328 rfl ?_
          refine g_goto hC dL_law_1328 1332 rfl ?_
          refine g_aload_n hC dL_law_1332 0 rfl gRef_r 1333 rfl ?_
          refine g_iload_n hC dL_law_1333 3 rfl 1334 rfl ?_
          refine g_iconst hC dL_law_1334 ki_3 1335 rfl ?_
          refine g_iadd hC dL_law_1335 1336 rfl ?_
          refine g_topi (y := nI (6 * j + 3)) (nI_a (a := (6 * j)) (b := 3) (c := (6 * j + 3)) (by omega)) ?_
          refine g_scr hC hX hbz (i := 6 * j + 3) (by omega) hL dL_law_1336 1337 rfl ?_
          refine g_topi (y := nI ln) eln ?_
          refine g_aload_n hC dL_law_1337 0 rfl gRef_r 1338 rfl ?_
          refine g_iload_n hC dL_law_1338 3 rfl 1339 rfl ?_
          refine g_iconst hC dL_law_1339 ki_4 1340 rfl ?_
          refine g_iadd hC dL_law_1340 1341 rfl ?_
          refine g_topi (y := nI (6 * j + 4)) (nI_a (a := (6 * j)) (b := 4) (c := (6 * j + 4)) (by omega)) ?_
          refine g_scr hC hX hbz (i := 6 * j + 4) (by omega) hL dL_law_1341 1342 rfl ?_
          refine g_aload_n hC dL_law_1342 0 rfl gRef_r 1343 rfl ?_
          refine g_iload_n hC dL_law_1343 3 rfl 1344 rfl ?_
          refine g_iconst hC dL_law_1344 ki_5 1345 rfl ?_
          refine g_iadd hC dL_law_1345 1346 rfl ?_
          refine g_topi (y := nI (6 * j + 5)) (nI_a (a := (6 * j)) (b := 5) (c := (6 * j + 5)) (by omega)) ?_
          refine g_scr hC hX hbz (i := 6 * j + 5) (by omega) hL dL_law_1346 1347 rfl ?_
          refine g_topi (y := nI i) ei ?_
          refine g_st (st' := [.int (nI i), .int (xs (6 * j + 4)), .int (nI ln), .int (bI true), .int (xs (6 * j + 1)), .ref x]) rfl ?_
          refine g_calli (g_V (As := [.int (xs (6 * j + 1)), .int (bI true), .int (nI ln), .int (xs (6 * j + 4)), .int (nI i)]) (rest := []) hC mvX0_frameBit q2608 (gOf.of hC.K cI0 hM_0) (met_X_frameBit l G M x ga (xs (6 * j + 1)) true ln (xs (6 * j + 4)) i hf hln hi) ⟨rfl, rfl⟩ ⟨(Nat.le_of_ble_eq_true rfl), (Nat.le_of_ble_eq_true rfl)⟩ rfl (Nat.le_of_ble_eq_true rfl) dL_law_1347 rfl ⟨(by first | omega | exact Nat.le_of_ble_eq_true rfl | (show _ ≤ 601471; omega) | (show _ ≤ 7291690; omega)), (by first | omega | exact Nat.le_of_ble_eq_true rfl | (show _ ≤ 601471; omega) | (show _ ≤ 7291690; omega))⟩) (9200 * j + 300 + 222) (by first | omega | exact Nat.le_of_ble_eq_true rfl | (show _ ≤ 601471; omega) | (show _ ≤ 7291690; omega)) (70000 * j + 20000 + 506) (by first | omega | exact Nat.le_of_ble_eq_true rfl | (show _ ≤ 601471; omega) | (show _ ≤ 7291690; omega)) 1350 rfl (fun r32 M29 k30 hp31 => ?_)
          obtain ⟨rfl, hF33, hk34⟩ := hp31
          refine g_aload_n hC dL_law_1350 2 rfl gRef_r 1351 rfl ?_
          refine g_aload_n hC dL_law_1351 0 rfl gRef_r 1352 rfl ?_
          refine g_iload_n hC dL_law_1352 3 rfl 1353 rfl ?_
          refine g_iconst hC dL_law_1353 ki_1 1354 rfl ?_
          refine g_iadd hC dL_law_1354 1355 rfl ?_
          refine g_topi (y := nI (6 * j + 1)) (nI_a (a := (6 * j)) (b := 1) (c := (6 * j + 1)) (by omega)) ?_
          refine g_scr hC hX hbz (i := 6 * j + 1) (by omega) hL dL_law_1355 1356 rfl ?_
          refine g_aload_n hC dL_law_1356 0 rfl gRef_r 1357 rfl ?_
          refine g_iload_n hC dL_law_1357 3 rfl 1358 rfl ?_
          refine g_iconst hC dL_law_1358 ki_2 1359 rfl ?_
          refine g_iadd hC dL_law_1359 1360 rfl ?_
          refine g_topi (y := nI (6 * j + 2)) (nI_a (a := (6 * j)) (b := 2) (c := (6 * j + 2)) (by omega)) ?_
          refine g_scr hC hX hbz (i := 6 * j + 2) (by omega) hL dL_law_1360 1361 rfl ?_
          refine g_if_eq hC dL_law_1361 1368 rfl 1364 rfl (fun c_35 => ?_) (fun c_35 => ?_)
          · exact absurd c_35 hb2
          · refine g_iconst hC dL_law_1364 ki_1 1365 rfl ?_
            refine g_goto hC dL_law_1365 1369 rfl ?_
            refine g_aload_n hC dL_law_1369 0 rfl gRef_r 1370 rfl ?_
            refine g_iload_n hC dL_law_1370 3 rfl 1371 rfl ?_
            refine g_iconst hC dL_law_1371 ki_3 1372 rfl ?_
            refine g_iadd hC dL_law_1372 1373 rfl ?_
            refine g_topi (y := nI (6 * j + 3)) (nI_a (a := (6 * j)) (b := 3) (c := (6 * j + 3)) (by omega)) ?_
            refine g_scr hC hX hbz (i := 6 * j + 3) (by omega) hL dL_law_1373 1374 rfl ?_
            refine g_topi (y := nI ln) eln ?_
            refine g_aload_n hC dL_law_1374 0 rfl gRef_r 1375 rfl ?_
            refine g_iload_n hC dL_law_1375 3 rfl 1376 rfl ?_
            refine g_iconst hC dL_law_1376 ki_4 1377 rfl ?_
            refine g_iadd hC dL_law_1377 1378 rfl ?_
            refine g_topi (y := nI (6 * j + 4)) (nI_a (a := (6 * j)) (b := 4) (c := (6 * j + 4)) (by omega)) ?_
            refine g_scr hC hX hbz (i := 6 * j + 4) (by omega) hL dL_law_1378 1379 rfl ?_
            refine g_aload_n hC dL_law_1379 0 rfl gRef_r 1380 rfl ?_
            refine g_iload_n hC dL_law_1380 3 rfl 1381 rfl ?_
            refine g_iconst hC dL_law_1381 ki_5 1382 rfl ?_
            refine g_iadd hC dL_law_1382 1383 rfl ?_
            refine g_topi (y := nI (6 * j + 5)) (nI_a (a := (6 * j)) (b := 5) (c := (6 * j + 5)) (by omega)) ?_
            refine g_scr hC hX hbz (i := 6 * j + 5) (by omega) hL dL_law_1383 1384 rfl ?_
            refine g_topi (y := nI i) ei ?_
            refine g_st (st' := [.int (nI i), .int (xs (6 * j + 4)), .int (nI ln), .int (bI true), .int (xs (6 * j + 1)), .ref m0, .int (obT (laysT ga 0 (xs (6 * j + 1)) true ln (xs (6 * j + 4))) (byF true ln + 34) (nI i) (2 * (byF true ln + 34) + 2) 0 0 0 (-1))]) rfl ?_
            refine g_calli (g_V (As := [.int (xs (6 * j + 1)), .int (bI true), .int (nI ln), .int (xs (6 * j + 4)), .int (nI i)]) (rest := [.int (obT (laysT ga 0 (xs (6 * j + 1)) true ln (xs (6 * j + 4))) (byF true ln + 34) (nI i) (2 * (byF true ln + 34) + 2) 0 0 0 (-1))]) hC mvX8_frameBit q3004 (gOf.of hC.K cI7 (hF33 _ _ _ hM_3 (show ¬ (tgR 9 8 16) (1, 0) by (try simp only [ndT, tgE, gT, tgR, ndT9, ndW, tg0, Prod.mk.injEq, true_and, and_true, cpyT, msT]); first | done | omega | (simp; done) | simp_all))) (met_T_frameBit l G M29 m0 av asp ak aik atx (nI lc) am (nI mc) aa (nI pc_) ato ga (xs (6 * j + 1)) true ln (xs (6 * j + 4)) (nI i) hf hln hix2 (hF33 _ _ _ hM_3 (show ¬ (tgR 9 8 16) (1, 0) by (try simp only [ndT, tgE, gT, tgR, ndT9, ndW, tg0, Prod.mk.injEq, true_and, and_true, cpyT, msT]); first | done | omega | (simp; done) | simp_all)) (hF33 _ _ _ hM_10 (show ¬ (tgR 9 8 16) (1, 7) by (try simp only [ndT, tgE, gT, tgR, ndT9, ndW, tg0, Prod.mk.injEq, true_and, and_true, cpyT, msT]); first | done | omega | (simp; done) | simp_all))) ⟨rfl, rfl⟩ ⟨(Nat.le_of_ble_eq_true rfl), (Nat.le_of_ble_eq_true rfl)⟩ rfl (Nat.le_of_ble_eq_true rfl) dL_law_1384 rfl ⟨(by first | omega | exact Nat.le_of_ble_eq_true rfl | (show _ ≤ 601471; omega) | (show _ ≤ 7291690; omega)), (by first | omega | exact Nat.le_of_ble_eq_true rfl | (show _ ≤ 601471; omega) | (show _ ≤ 7291690; omega))⟩) (9200 * j + 300 + 222) (by first | omega | exact Nat.le_of_ble_eq_true rfl | (show _ ≤ 601471; omega) | (show _ ≤ 7291690; omega)) (70000 * j + 20000 + 506) (by first | omega | exact Nat.le_of_ble_eq_true rfl | (show _ ≤ 601471; omega) | (show _ ≤ 7291690; omega)) 1387 rfl (fun r39 M36 k37 hp38 => ?_)
            obtain ⟨rfl, hc40, hF41, hk42⟩ := hp38
            obtain ⟨F43, eF44⟩ : ∃ z9, z9 = laysT ga 0 (xs (6 * j + 1)) true ln (xs (6 * j + 4)) := ⟨_, rfl⟩
            rw [← eF44] at hc40
            refine g_icmp_eq hC dL_law_1387 1649 rfl 1390 rfl (fun c_45 => ?_) (fun c_45 => ?_)
            · exact ih M36 ⟨ta, of, sv, ms, tx, lc, av, asp, ak, aik, atx, am, mc, aa, pc_, ato, t0, t1, f, txf, sp, kf, ik, gm, F43, gt, A, ⟨⟨by omega, by omega⟩, ⟨by omega, by omega⟩, ⟨by omega, by omega⟩, by omega, by omega, by omega, by omega, by omega, by omega⟩, htx, (hF41 _ _ _ (hF33 _ _ _ hM_0 (show ¬ (tgR 9 8 16) (8, 0) by (try simp only [ndT, tgE, gT, tgR, ndT9, ndW, tg0, Prod.mk.injEq, true_and, and_true, cpyT, msT]); first | done | omega | (simp; done) | simp_all)) (gno (gne_oa (hF33 _ _ _ hM_0 (show ¬ (tgR 9 8 16) (8, 0) by (try simp only [ndT, tgE, gT, tgR, ndT9, ndW, tg0, Prod.mk.injEq, true_and, and_true, cpyT, msT]); first | done | omega | (simp; done) | simp_all)) (hF33 _ _ _ hM_10 (show ¬ (tgR 9 8 16) (1, 7) by (try simp only [ndT, tgE, gT, tgR, ndT9, ndW, tg0, Prod.mk.injEq, true_and, and_true, cpyT, msT]); first | done | omega | (simp; done) | simp_all))) gno0)), (hF41 _ _ _ (hF33 _ _ _ hM_1 (show ¬ (tgR 9 8 16) (8, 1) by (try simp only [ndT, tgE, gT, tgR, ndT9, ndW, tg0, Prod.mk.injEq, true_and, and_true, cpyT, msT]); first | done | omega | (simp; done) | simp_all)) (gno (gne_t (hF33 _ _ _ hM_1 (show ¬ (tgR 9 8 16) (8, 1) by (try simp only [ndT, tgE, gT, tgR, ndT9, ndW, tg0, Prod.mk.injEq, true_and, and_true, cpyT, msT]); first | done | omega | (simp; done) | simp_all)) (hF33 _ _ _ hM_10 (show ¬ (tgR 9 8 16) (1, 7) by (try simp only [ndT, tgE, gT, tgR, ndT9, ndW, tg0, Prod.mk.injEq, true_and, and_true, cpyT, msT]); first | done | omega | (simp; done) | simp_all)) (by first | assumption | decide | (intro h; simp only [Prod.mk.injEq] at h; omega) | simp | (intro h; simp at h))) gno0)), (hF41 _ _ _ (hF33 _ _ _ hM_2 (show ¬ (tgR 9 8 16) (8, 5) by (try simp only [ndT, tgE, gT, tgR, ndT9, ndW, tg0, Prod.mk.injEq, true_and, and_true, cpyT, msT]); first | done | omega | (simp; done) | simp_all)) (gno (gne_t (hF33 _ _ _ hM_2 (show ¬ (tgR 9 8 16) (8, 5) by (try simp only [ndT, tgE, gT, tgR, ndT9, ndW, tg0, Prod.mk.injEq, true_and, and_true, cpyT, msT]); first | done | omega | (simp; done) | simp_all)) (hF33 _ _ _ hM_10 (show ¬ (tgR 9 8 16) (1, 7) by (try simp only [ndT, tgE, gT, tgR, ndT9, ndW, tg0, Prod.mk.injEq, true_and, and_true, cpyT, msT]); first | done | omega | (simp; done) | simp_all)) (by first | assumption | decide | (intro h; simp only [Prod.mk.injEq] at h; omega) | simp | (intro h; simp at h))) gno0)), (hF41 _ _ _ (hF33 _ _ _ hM_3 (show ¬ (tgR 9 8 16) (1, 0) by (try simp only [ndT, tgE, gT, tgR, ndT9, ndW, tg0, Prod.mk.injEq, true_and, and_true, cpyT, msT]); first | done | omega | (simp; done) | simp_all)) (gno (gne_oa (hF33 _ _ _ hM_3 (show ¬ (tgR 9 8 16) (1, 0) by (try simp only [ndT, tgE, gT, tgR, ndT9, ndW, tg0, Prod.mk.injEq, true_and, and_true, cpyT, msT]); first | done | omega | (simp; done) | simp_all)) (hF33 _ _ _ hM_10 (show ¬ (tgR 9 8 16) (1, 7) by (try simp only [ndT, tgE, gT, tgR, ndT9, ndW, tg0, Prod.mk.injEq, true_and, and_true, cpyT, msT]); first | done | omega | (simp; done) | simp_all))) gno0)), (hF41 _ _ _ (hF33 _ _ _ hM_4 (show ¬ (tgR 9 8 16) (1, 1) by (try simp only [ndT, tgE, gT, tgR, ndT9, ndW, tg0, Prod.mk.injEq, true_and, and_true, cpyT, msT]); first | done | omega | (simp; done) | simp_all)) (gno (gne_t (hF33 _ _ _ hM_4 (show ¬ (tgR 9 8 16) (1, 1) by (try simp only [ndT, tgE, gT, tgR, ndT9, ndW, tg0, Prod.mk.injEq, true_and, and_true, cpyT, msT]); first | done | omega | (simp; done) | simp_all)) (hF33 _ _ _ hM_10 (show ¬ (tgR 9 8 16) (1, 7) by (try simp only [ndT, tgE, gT, tgR, ndT9, ndW, tg0, Prod.mk.injEq, true_and, and_true, cpyT, msT]); first | done | omega | (simp; done) | simp_all)) (by first | assumption | decide | (intro h; simp only [Prod.mk.injEq] at h; omega) | simp | (intro h; simp at h))) gno0)), (hF41 _ _ _ (hF33 _ _ _ hM_5 (show ¬ (tgR 9 8 16) (1, 2) by (try simp only [ndT, tgE, gT, tgR, ndT9, ndW, tg0, Prod.mk.injEq, true_and, and_true, cpyT, msT]); first | done | omega | (simp; done) | simp_all)) (gno (gne_t (hF33 _ _ _ hM_5 (show ¬ (tgR 9 8 16) (1, 2) by (try simp only [ndT, tgE, gT, tgR, ndT9, ndW, tg0, Prod.mk.injEq, true_and, and_true, cpyT, msT]); first | done | omega | (simp; done) | simp_all)) (hF33 _ _ _ hM_10 (show ¬ (tgR 9 8 16) (1, 7) by (try simp only [ndT, tgE, gT, tgR, ndT9, ndW, tg0, Prod.mk.injEq, true_and, and_true, cpyT, msT]); first | done | omega | (simp; done) | simp_all)) (by first | assumption | decide | (intro h; simp only [Prod.mk.injEq] at h; omega) | simp | (intro h; simp at h))) gno0)), (hF41 _ _ _ (hF33 _ _ _ hM_6 (show ¬ (tgR 9 8 16) (1, 3) by (try simp only [ndT, tgE, gT, tgR, ndT9, ndW, tg0, Prod.mk.injEq, true_and, and_true, cpyT, msT]); first | done | omega | (simp; done) | simp_all)) (gno (gne_t (hF33 _ _ _ hM_6 (show ¬ (tgR 9 8 16) (1, 3) by (try simp only [ndT, tgE, gT, tgR, ndT9, ndW, tg0, Prod.mk.injEq, true_and, and_true, cpyT, msT]); first | done | omega | (simp; done) | simp_all)) (hF33 _ _ _ hM_10 (show ¬ (tgR 9 8 16) (1, 7) by (try simp only [ndT, tgE, gT, tgR, ndT9, ndW, tg0, Prod.mk.injEq, true_and, and_true, cpyT, msT]); first | done | omega | (simp; done) | simp_all)) (by first | assumption | decide | (intro h; simp only [Prod.mk.injEq] at h; omega) | simp | (intro h; simp at h))) gno0)), (hF41 _ _ _ (hF33 _ _ _ hM_7 (show ¬ (tgR 9 8 16) (1, 4) by (try simp only [ndT, tgE, gT, tgR, ndT9, ndW, tg0, Prod.mk.injEq, true_and, and_true, cpyT, msT]); first | done | omega | (simp; done) | simp_all)) (gno (gne_t (hF33 _ _ _ hM_7 (show ¬ (tgR 9 8 16) (1, 4) by (try simp only [ndT, tgE, gT, tgR, ndT9, ndW, tg0, Prod.mk.injEq, true_and, and_true, cpyT, msT]); first | done | omega | (simp; done) | simp_all)) (hF33 _ _ _ hM_10 (show ¬ (tgR 9 8 16) (1, 7) by (try simp only [ndT, tgE, gT, tgR, ndT9, ndW, tg0, Prod.mk.injEq, true_and, and_true, cpyT, msT]); first | done | omega | (simp; done) | simp_all)) (by first | assumption | decide | (intro h; simp only [Prod.mk.injEq] at h; omega) | simp | (intro h; simp at h))) gno0)), (hF41 _ _ _ (hF33 _ _ _ hM_8 (show ¬ (tgR 9 8 16) (1, 5) by (try simp only [ndT, tgE, gT, tgR, ndT9, ndW, tg0, Prod.mk.injEq, true_and, and_true, cpyT, msT]); first | done | omega | (simp; done) | simp_all)) (gno (gne_t (hF33 _ _ _ hM_8 (show ¬ (tgR 9 8 16) (1, 5) by (try simp only [ndT, tgE, gT, tgR, ndT9, ndW, tg0, Prod.mk.injEq, true_and, and_true, cpyT, msT]); first | done | omega | (simp; done) | simp_all)) (hF33 _ _ _ hM_10 (show ¬ (tgR 9 8 16) (1, 7) by (try simp only [ndT, tgE, gT, tgR, ndT9, ndW, tg0, Prod.mk.injEq, true_and, and_true, cpyT, msT]); first | done | omega | (simp; done) | simp_all)) (by first | assumption | decide | (intro h; simp only [Prod.mk.injEq] at h; omega) | simp | (intro h; simp at h))) gno0)), (hF41 _ _ _ (hF33 _ _ _ hM_9 (show ¬ (tgR 9 8 16) (1, 6) by (try simp only [ndT, tgE, gT, tgR, ndT9, ndW, tg0, Prod.mk.injEq, true_and, and_true, cpyT, msT]); first | done | omega | (simp; done) | simp_all)) (gno (gne_t (hF33 _ _ _ hM_9 (show ¬ (tgR 9 8 16) (1, 6) by (try simp only [ndT, tgE, gT, tgR, ndT9, ndW, tg0, Prod.mk.injEq, true_and, and_true, cpyT, msT]); first | done | omega | (simp; done) | simp_all)) (hF33 _ _ _ hM_10 (show ¬ (tgR 9 8 16) (1, 7) by (try simp only [ndT, tgE, gT, tgR, ndT9, ndW, tg0, Prod.mk.injEq, true_and, and_true, cpyT, msT]); first | done | omega | (simp; done) | simp_all)) (by first | assumption | decide | (intro h; simp only [Prod.mk.injEq] at h; omega) | simp | (intro h; simp at h))) gno0)), hc40, (hF41 _ _ _ (hF33 _ _ _ hM_11 (show ¬ (tgR 9 8 16) (1, 8) by (try simp only [ndT, tgE, gT, tgR, ndT9, ndW, tg0, Prod.mk.injEq, true_and, and_true, cpyT, msT]); first | done | omega | (simp; done) | simp_all)) (gno (gne_t (hF33 _ _ _ hM_11 (show ¬ (tgR 9 8 16) (1, 8) by (try simp only [ndT, tgE, gT, tgR, ndT9, ndW, tg0, Prod.mk.injEq, true_and, and_true, cpyT, msT]); first | done | omega | (simp; done) | simp_all)) (hF33 _ _ _ hM_10 (show ¬ (tgR 9 8 16) (1, 7) by (try simp only [ndT, tgE, gT, tgR, ndT9, ndW, tg0, Prod.mk.injEq, true_and, and_true, cpyT, msT]); first | done | omega | (simp; done) | simp_all)) (by first | assumption | decide | (intro h; simp only [Prod.mk.injEq] at h; omega) | simp | (intro h; simp at h))) gno0)), (by try rw [eF44]; exact busR.mono (busR.fr hB ((gFr.refl.trans (hF33.mono (fun b t h => by obtain ⟨u9, v9⟩ := t; revert h; (try simp only [ndT, tgE, gT, tgR, ndT9, ndW, tg0, Prod.mk.injEq, true_and, and_true, cpyT, msT]); first | done | omega | (simp; done) | (intro h; simp_all; done)))).trf hF41 (fun b t e hb hn => (gno (gne_t ((gFr.refl.trans (hF33.mono (fun b t h => by obtain ⟨u9, v9⟩ := t; revert h; (try simp only [ndT, tgE, gT, tgR, ndT9, ndW, tg0, Prod.mk.injEq, true_and, and_true, cpyT, msT]); first | done | omega | (simp; done) | (intro h; simp_all; done)))) b t e hb hn) (hF33 _ _ _ hM_10 (show ¬ (tgR 9 8 16) (1, 7) by (try simp only [ndT, tgE, gT, tgR, ndT9, ndW, tg0, Prod.mk.injEq, true_and, and_true, cpyT, msT]); first | done | omega | (simp; done) | simp_all)) (fun q => hn (by rw [q]; exact (show (fun t => ¬ (fun t => t.1 = ta ∨ tg0 t) t) (1, 7) by (try simp only [ndT, tgE, gT, tgR, ndT9, ndW, tg0, Prod.mk.injEq, true_and, and_true, cpyT, msT]); first | done | omega | (simp; done))))) gno0)))) (by omega)), ((sv1.fr hS0 ((gFr.refl.trans (hF33.mono (fun b t h => by obtain ⟨u9, v9⟩ := t; revert h; (try simp only [ndT, tgE, gT, tgR, ndT9, ndW, tg0, Prod.mk.injEq, true_and, and_true, cpyT, msT]); first | done | omega | (simp; done) | (intro h; simp_all; done)))).trf hF41 (fun b t e hb hn => (gno (gne_t ((gFr.refl.trans (hF33.mono (fun b t h => by obtain ⟨u9, v9⟩ := t; revert h; (try simp only [ndT, tgE, gT, tgR, ndT9, ndW, tg0, Prod.mk.injEq, true_and, and_true, cpyT, msT]); first | done | omega | (simp; done) | (intro h; simp_all; done)))) b t e hb hn) (hF33 _ _ _ hM_10 (show ¬ (tgR 9 8 16) (1, 7) by (try simp only [ndT, tgE, gT, tgR, ndT9, ndW, tg0, Prod.mk.injEq, true_and, and_true, cpyT, msT]); first | done | omega | (simp; done) | simp_all)) (fun q => hn (by rw [q]; exact (show (fun t => ¬ (fun t => t.1 = t0 ∨ tg0 t) t) (1, 7) by (try simp only [ndT, tgE, gT, tgR, ndT9, ndW, tg0, Prod.mk.injEq, true_and, and_true, cpyT, msT]); first | done | omega | (simp; done))))) gno0)))).mono (by omega)), ((sv1.fr hS1 ((gFr.refl.trans (hF33.mono (fun b t h => by obtain ⟨u9, v9⟩ := t; revert h; (try simp only [ndT, tgE, gT, tgR, ndT9, ndW, tg0, Prod.mk.injEq, true_and, and_true, cpyT, msT]); first | done | omega | (simp; done) | (intro h; simp_all; done)))).trf hF41 (fun b t e hb hn => (gno (gne_t ((gFr.refl.trans (hF33.mono (fun b t h => by obtain ⟨u9, v9⟩ := t; revert h; (try simp only [ndT, tgE, gT, tgR, ndT9, ndW, tg0, Prod.mk.injEq, true_and, and_true, cpyT, msT]); first | done | omega | (simp; done) | (intro h; simp_all; done)))) b t e hb hn) (hF33 _ _ _ hM_10 (show ¬ (tgR 9 8 16) (1, 7) by (try simp only [ndT, tgE, gT, tgR, ndT9, ndW, tg0, Prod.mk.injEq, true_and, and_true, cpyT, msT]); first | done | omega | (simp; done) | simp_all)) (fun q => hn (by rw [q]; exact (show (fun t => ¬ (fun t => t.1 = t1 ∨ tg0 t) t) (1, 7) by (try simp only [ndT, tgE, gT, tgR, ndT9, ndW, tg0, Prod.mk.injEq, true_and, and_true, cpyT, msT]); first | done | omega | (simp; done))))) gno0)))).mono (by omega)), (by try rw [eF44]; exact (msR.fr hMs ((gFr.refl.trans (hF33.mono (fun b t h => by obtain ⟨u9, v9⟩ := t; revert h; (try simp only [ndT, tgE, gT, tgR, ndT9, ndW, tg0, Prod.mk.injEq, true_and, and_true, cpyT, msT]); first | done | omega | (simp; done) | (intro h; simp_all; done)))).trf hF41 (fun b t e hb hn => (gno (gne_t ((gFr.refl.trans (hF33.mono (fun b t h => by obtain ⟨u9, v9⟩ := t; revert h; (try simp only [ndT, tgE, gT, tgR, ndT9, ndW, tg0, Prod.mk.injEq, true_and, and_true, cpyT, msT]); first | done | omega | (simp; done) | (intro h; simp_all; done)))) b t e hb hn) (hF33 _ _ _ hM_10 (show ¬ (tgR 9 8 16) (1, 7) by (try simp only [ndT, tgE, gT, tgR, ndT9, ndW, tg0, Prod.mk.injEq, true_and, and_true, cpyT, msT]); first | done | omega | (simp; done) | simp_all)) (fun q => hn (by rw [q]; exact (show (fun t => ¬ msT t) (1, 7) by (try simp only [ndT, tgE, gT, tgR, ndT9, ndW, tg0, Prod.mk.injEq, true_and, and_true, cpyT, msT]); first | done | omega | (simp; done))))) gno0)))))⟩
            · exact absurd rfl c_45
    · refine g_aload_n hC dL_law_1313 1 rfl gRef_r 1314 rfl ?_
      refine g_aload_n hC dL_law_1314 0 rfl gRef_r 1315 rfl ?_
      refine g_iload_n hC dL_law_1315 3 rfl 1316 rfl ?_
      refine g_iconst hC dL_law_1316 ki_1 1317 rfl ?_
      refine g_iadd hC dL_law_1317 1318 rfl ?_
      refine g_topi (y := nI (6 * j + 1)) (nI_a (a := (6 * j)) (b := 1) (c := (6 * j + 1)) (by omega)) ?_
      refine g_scr hC hX hbz (i := 6 * j + 1) (by omega) hL dL_law_1318 1319 rfl ?_
      refine g_aload_n hC dL_law_1319 0 rfl gRef_r 1320 rfl ?_
      refine g_iload_n hC dL_law_1320 3 rfl 1321 rfl ?_
      refine g_iconst hC dL_law_1321 ki_2 1322 rfl ?_
      refine g_iadd hC dL_law_1322 1323 rfl ?_
      refine g_topi (y := nI (6 * j + 2)) (nI_a (a := (6 * j)) (b := 2) (c := (6 * j + 2)) (by omega)) ?_
      refine g_scr hC hX hbz (i := 6 * j + 2) (by omega) hL dL_law_1323 1324 rfl ?_
      refine g_if_eq hC dL_law_1324 1331 rfl 1327 rfl (fun c_46 => ?_) (fun c_46 => ?_)
      · exact absurd c_46 hb2
      · refine g_iconst hC dL_law_1327 ki_1 1328 rfl ?_
        refine g_goto hC dL_law_1328 1332 rfl ?_
        refine g_aload_n hC dL_law_1332 0 rfl gRef_r 1333 rfl ?_
        refine g_iload_n hC dL_law_1333 3 rfl 1334 rfl ?_
        refine g_iconst hC dL_law_1334 ki_3 1335 rfl ?_
        refine g_iadd hC dL_law_1335 1336 rfl ?_
        refine g_topi (y := nI (6 * j + 3)) (nI_a (a := (6 * j)) (b := 3) (c := (6 * j + 3)) (by omega)) ?_
        refine g_scr hC hX hbz (i := 6 * j + 3) (by omega) hL dL_law_1336 1337 rfl ?_
        refine g_aload_n hC dL_law_1337 0 rfl gRef_r 1338 rfl ?_
        refine g_iload_n hC dL_law_1338 3 rfl 1339 rfl ?_
        refine g_iconst hC dL_law_1339 ki_4 1340 rfl ?_
        refine g_iadd hC dL_law_1340 1341 rfl ?_
        refine g_topi (y := nI (6 * j + 4)) (nI_a (a := (6 * j)) (b := 4) (c := (6 * j + 4)) (by omega)) ?_
        refine g_scr hC hX hbz (i := 6 * j + 4) (by omega) hL dL_law_1341 1342 rfl ?_
        refine g_aload_n hC dL_law_1342 0 rfl gRef_r 1343 rfl ?_
        refine g_iload_n hC dL_law_1343 3 rfl 1344 rfl ?_
        refine g_iconst hC dL_law_1344 ki_5 1345 rfl ?_
        refine g_iadd hC dL_law_1345 1346 rfl ?_
        refine g_topi (y := nI (6 * j + 5)) (nI_a (a := (6 * j)) (b := 5) (c := (6 * j + 5)) (by omega)) ?_
        refine g_scr hC hX hbz (i := 6 * j + 5) (by omega) hL dL_law_1346 1347 rfl ?_
        refine g_st (st' := [.int (xs (6 * j + 5)), .int (xs (6 * j + 4)), .int (xs (6 * j + 3)), .int (bI true), .int (xs (6 * j + 1)), .ref x]) rfl ?_
        refine g_calliP (g_V (As := [.int (xs (6 * j + 1)), .int (bI true), .int (xs (6 * j + 3)), .int (xs (6 * j + 4)), .int (xs (6 * j + 5))]) (rest := []) hC mvX0_frameBit q2608 (gOf.of hC.K cI0 hM_0) (met_X_frameBit_n l G M x (xs (6 * j + 1)) true (xs (6 * j + 3)) (xs (6 * j + 4)) (xs (6 * j + 5)) hf) ⟨rfl, rfl⟩ ⟨(Nat.le_of_ble_eq_true rfl), (Nat.le_of_ble_eq_true rfl)⟩ rfl (Nat.le_of_ble_eq_true rfl) dL_law_1347 rfl ⟨(by first | omega | exact Nat.le_of_ble_eq_true rfl | (show _ ≤ 601471; omega) | (show _ ≤ 7291690; omega)), (by first | omega | exact Nat.le_of_ble_eq_true rfl | (show _ ≤ 601471; omega) | (show _ ≤ 7291690; omega))⟩) 1350 rfl (70000 * j + 20000) (by first | omega | exact Nat.le_of_ble_eq_true rfl | (show _ ≤ 601471; omega) | (show _ ≤ 7291690; omega)) ?_
        refine g_aload_n hC dL_law_1350 2 rfl gRef_r 1351 rfl ?_
        refine g_aload_n hC dL_law_1351 0 rfl gRef_r 1352 rfl ?_
        refine g_iload_n hC dL_law_1352 3 rfl 1353 rfl ?_
        refine g_iconst hC dL_law_1353 ki_1 1354 rfl ?_
        refine g_iadd hC dL_law_1354 1355 rfl ?_
        refine g_topi (y := nI (6 * j + 1)) (nI_a (a := (6 * j)) (b := 1) (c := (6 * j + 1)) (by omega)) ?_
        refine g_scr hC hX hbz (i := 6 * j + 1) (by omega) hL dL_law_1355 1356 rfl ?_
        refine g_aload_n hC dL_law_1356 0 rfl gRef_r 1357 rfl ?_
        refine g_iload_n hC dL_law_1357 3 rfl 1358 rfl ?_
        refine g_iconst hC dL_law_1358 ki_2 1359 rfl ?_
        refine g_iadd hC dL_law_1359 1360 rfl ?_
        refine g_topi (y := nI (6 * j + 2)) (nI_a (a := (6 * j)) (b := 2) (c := (6 * j + 2)) (by omega)) ?_
        refine g_scr hC hX hbz (i := 6 * j + 2) (by omega) hL dL_law_1360 1361 rfl ?_
        refine g_if_eq hC dL_law_1361 1368 rfl 1364 rfl (fun c_47 => ?_) (fun c_47 => ?_)
        · exact absurd c_47 hb2
        · refine g_iconst hC dL_law_1364 ki_1 1365 rfl ?_
          refine g_goto hC dL_law_1365 1369 rfl ?_
          refine g_aload_n hC dL_law_1369 0 rfl gRef_r 1370 rfl ?_
          refine g_iload_n hC dL_law_1370 3 rfl 1371 rfl ?_
          refine g_iconst hC dL_law_1371 ki_3 1372 rfl ?_
          refine g_iadd hC dL_law_1372 1373 rfl ?_
          refine g_topi (y := nI (6 * j + 3)) (nI_a (a := (6 * j)) (b := 3) (c := (6 * j + 3)) (by omega)) ?_
          refine g_scr hC hX hbz (i := 6 * j + 3) (by omega) hL dL_law_1373 1374 rfl ?_
          refine g_aload_n hC dL_law_1374 0 rfl gRef_r 1375 rfl ?_
          refine g_iload_n hC dL_law_1375 3 rfl 1376 rfl ?_
          refine g_iconst hC dL_law_1376 ki_4 1377 rfl ?_
          refine g_iadd hC dL_law_1377 1378 rfl ?_
          refine g_topi (y := nI (6 * j + 4)) (nI_a (a := (6 * j)) (b := 4) (c := (6 * j + 4)) (by omega)) ?_
          refine g_scr hC hX hbz (i := 6 * j + 4) (by omega) hL dL_law_1378 1379 rfl ?_
          refine g_aload_n hC dL_law_1379 0 rfl gRef_r 1380 rfl ?_
          refine g_iload_n hC dL_law_1380 3 rfl 1381 rfl ?_
          refine g_iconst hC dL_law_1381 ki_5 1382 rfl ?_
          refine g_iadd hC dL_law_1382 1383 rfl ?_
          refine g_topi (y := nI (6 * j + 5)) (nI_a (a := (6 * j)) (b := 5) (c := (6 * j + 5)) (by omega)) ?_
          refine g_scr hC hX hbz (i := 6 * j + 5) (by omega) hL dL_law_1383 1384 rfl ?_
          refine g_st (st' := [.int (xs (6 * j + 5)), .int (xs (6 * j + 4)), .int (xs (6 * j + 3)), .int (bI true), .int (xs (6 * j + 1)), .ref m0, .int (-2)]) rfl ?_
          refine g_calliP (g_V (As := [.int (xs (6 * j + 1)), .int (bI true), .int (xs (6 * j + 3)), .int (xs (6 * j + 4)), .int (xs (6 * j + 5))]) (rest := [.int (-2)]) hC mvX8_frameBit q3004 (gOf.of hC.K cI7 hM_3) (met_T_frameBit_n l G M m0 av asp ak aik atx (nI lc) am (nI mc) aa (nI pc_) ato ga (xs (6 * j + 1)) true (xs (6 * j + 3)) (xs (6 * j + 4)) (xs (6 * j + 5)) hf hM_3 hM_10) ⟨rfl, rfl⟩ ⟨(Nat.le_of_ble_eq_true rfl), (Nat.le_of_ble_eq_true rfl)⟩ rfl (Nat.le_of_ble_eq_true rfl) dL_law_1384 rfl ⟨(by first | omega | exact Nat.le_of_ble_eq_true rfl | (show _ ≤ 601471; omega) | (show _ ≤ 7291690; omega)), (by first | omega | exact Nat.le_of_ble_eq_true rfl | (show _ ≤ 601471; omega) | (show _ ≤ 7291690; omega))⟩) 1387 rfl (70000 * j + 20000) (by first | omega | exact Nat.le_of_ble_eq_true rfl | (show _ ≤ 601471; omega) | (show _ ≤ 7291690; omega)) ?_
          refine g_icmp_eq hC dL_law_1387 1649 rfl 1390 rfl (fun c_48 => ?_) (fun c_48 => ?_)
          · exact ih M ⟨ta, of, sv, ms, tx, lc, av, asp, ak, aik, atx, am, mc, aa, pc_, ato, t0, t1, f, txf, sp, kf, ik, gm, ga, gt, A, ⟨⟨by omega, by omega⟩, ⟨by omega, by omega⟩, ⟨by omega, by omega⟩, by omega, by omega, by omega, by omega, by omega, by omega⟩, htx, hM_0, hM_1, hM_2, hM_3, hM_4, hM_5, hM_6, hM_7, hM_8, hM_9, hM_10, hM_11, busR.mono hB (by omega), (hS0.mono (by omega)), (hS1.mono (by omega)), hMs⟩
          · exact absurd c_48 (by decide)
