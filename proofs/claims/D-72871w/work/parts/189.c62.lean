/-! ArrayList; the reader's list of requests; faultPosition, load -/
set_option maxRecDepth 100000
set_option maxHeartbeats 4000000 in
theorem met_AL_sup (l : Launch) (G : gG) (M : gM) (h : Nat) (t : Nat × Nat)  (hM_0 : M h = some (t, .inr (29, [.int 0, .null, .int 0]))) : Met l yJ1_init (ws_ yJ1_init cJ1_init 1 none) ({ frames := 2, cells := 0, slots := 0, locals := 32 }) (gPc G [.ref h] M) (gQv G (fun M9 k9 => M9 h = some (t, .inr (29, [.int 0, .null, .int 0])) ∧ gFr (gL [h]) M M9 ∧ k9 = 0)) 0 0 (gA G) := by
  refine gMet [(0, .ref h)] (by decide) (Nat.le_of_ble_eq_true rfl) rfl ?_
  intro p e s m below meth c hC
  refine g_aload_n hC dJ1_init_0 0 rfl gRef_r 1 rfl ?_
  refine g_callvP (g_I (As := []) (rest := []) hC miJ0_init q197 (met_J0_init l G M h) ⟨rfl, rfl⟩ ⟨(Nat.le_of_ble_eq_true rfl), (Nat.le_of_ble_eq_true rfl)⟩ rfl (Nat.le_of_ble_eq_true rfl) dJ1_init_1 rfl ⟨(Nat.le_of_ble_eq_true rfl), (Nat.le_of_ble_eq_true rfl)⟩) 4 rfl 0 (Nat.le_of_ble_eq_true rfl) ?_
  refine g_aload_n hC dJ1_init_4 0 rfl gRef_r 5 rfl ?_
  refine g_iconst hC dJ1_init_5 ki_0 6 rfl ?_
  refine g_put hC cI29 hM_0 0 (Nat.le_of_ble_eq_true rfl) q205 rfl rfl rfl (Nat.le_of_ble_eq_true rfl) dJ1_init_6 (fs' := [.int 0, .null, .int 0]) rfl 9 rfl (fun M1 hU2 => ?_)
  exact g_vret hC (fun k9 hk9 => ⟨hU2.1, (gFr.refl.up hU2 hM_0 (by simp)), (by first | exact Nat.le_zero.mp hk9 | omega)⟩) dJ1_init_9 (Nat.le_of_ble_eq_true rfl) (Nat.le_of_ble_eq_true rfl)
set_option maxHeartbeats 4000000 in
theorem met_AL_init (l : Launch) (G : gG) (M : gM) (al : Nat)  (hM_0 : M al = some ((7, 3), .inr (29, [.int 0, .null, .int 0]))) : Met l yJ42_init (ws_ yJ42_init cJ42_init 2 none) ({ frames := 3, cells := 1, slots := 20, locals := 52 }) (gPc G [.ref al, .int 20] M) (gQv G (fun M9 k9 => ∃ ad : Nat, M9 al = some ((7, 3), .inr (29, [.int 0, .ref ad, .int 0])) ∧ M9 ad = some ((7, 4), .inl (gcs G 3, 20, .inr (.inr (.inr (.inr (fun _ => none)))))) ∧ gFr (gL [al]) M M9 ∧ k9 ≤ 1)) 1 20 (gA G) := by
  refine gMet [(0, .ref al), (1, .int 20)] (by decide) (Nat.le_of_ble_eq_true rfl) rfl ?_
  intro p e s m below meth c hC
  refine g_aload_n hC dJ42_init_0 0 rfl gRef_r 1 rfl ?_
  refine g_callv (g_I (As := []) (rest := []) hC miJ1_init q2748 (met_AL_sup l G M al (7, 3) hM_0) ⟨rfl, rfl⟩ ⟨(Nat.le_of_ble_eq_true rfl), (Nat.le_of_ble_eq_true rfl)⟩ rfl (Nat.le_of_ble_eq_true rfl) dJ42_init_1 rfl ⟨(Nat.le_of_ble_eq_true rfl), (Nat.le_of_ble_eq_true rfl)⟩) 0 (Nat.le_of_ble_eq_true rfl) 0 (Nat.le_of_ble_eq_true rfl) 4 rfl (fun M1 k2 hp3 => ?_)
  obtain ⟨hc5, hF6, hk7⟩ := hp3
  refine g_iload_n hC dJ42_init_4 1 rfl 5 rfl ?_
  refine g_if_le hC dJ42_init_5 19 rfl 8 rfl (fun c_8 => ?_) (fun c_8 => ?_)
  · exact absurd c_8 (by decide)
  · refine g_aload_n hC dJ42_init_8 0 rfl gRef_r 9 rfl ?_
    refine g_iload_n hC dJ42_init_9 1 rfl 10 rfl ?_
    refine g_newq hC q2749 hC.K.2.2.2.2.2.1.1 3 rfl (7, 4) (n := 20) (N := 20) (by decide) (by decide) (Nat.le_of_ble_eq_true rfl) (Nat.le_of_ble_eq_true rfl) (Nat.le_of_ble_eq_true rfl) 1 (Nat.le_of_ble_eq_true rfl) 20 (Nat.le_of_ble_eq_true rfl) dJ42_init_10 13 rfl (fun a9 M10 hN11 => ?_)
    refine g_put hC cI29 (hN11.n hc5) 1 (Nat.le_of_ble_eq_true rfl) q2752 rfl rfl rfl (Nat.le_of_ble_eq_true rfl) dJ42_init_13 (fs' := [.int 0, .ref a9, .int 0]) rfl 16 rfl (fun M12 hU13 => ?_)
    have hH14 := (hU13.n (Ne.symm (hN11.ne hc5)) hN11.2.1)
    refine g_goto hC dJ42_init_16 60 rfl ?_
    exact g_vret hC (fun k9 hk9 => ⟨a9, hU13.1, hH14, (((gFr.refl.trans (hF6.mono (by intro b t hb; simp at hb ⊢; first | done | (rcases hb with rfl | rfl | rfl | rfl <;> simp) | (simp [hb]; done)))).nw hN11).up hU13 (hN11.n hc5) (by simp)), (by first | exact Nat.le_zero.mp hk9 | omega)⟩) dJ42_init_60 (Nat.le_of_ble_eq_true rfl) (Nat.le_of_ble_eq_true rfl)
set_option maxHeartbeats 4000000 in
theorem met_AL_add2 (l : Launch) (G : gG) (M : gM) (al : Nat) (ad : Nat) (mz : Int32) (n : Nat) (fa : Nat → Option Nat) (x9 : Nat) (xt : Nat × Nat) (x1 : Int32) (x2 : Int32) (x3 : Int32) (x4 : Int32) (x5 : Int32) (hn : n < 20) (hM_0 : M al = some ((7, 3), .inr (29, [.int mz, .ref ad, .int (nI n)]))) (hM_1 : M ad = some ((7, 4), .inl (gcs G 3, 20, .inr (.inr (.inr (.inr fa)))))) (hM_2 : M x9 = some (xt, .inr (16, [.int x1, .int x2, .int x3, .int x4, .int x5]))) : Met l yJ42_add_2 (ws_ yJ42_add_2 cJ42_add_2 4 none) ({ frames := 0, cells := 0, slots := 0, locals := 0 }) (gPc G [.ref al, .ref x9, .ref ad, .int (nI n)] M) (gQv G (fun M9 k9 => M9 al = some ((7, 3), .inr (29, [.int mz, .ref ad, .int (nI (n + 1))])) ∧ M9 ad = some ((7, 4), .inl (gcs G 3, 20, .inr (.inr (.inr (.inr (va_up fa n (some x9))))))) ∧ gFr (gL [al, ad]) M M9 ∧ k9 = 0)) 0 0 (gA G) := by
  refine gMet [(0, .ref al), (1, .ref x9), (2, .ref ad), (3, .int (nI n))] (by decide) (Nat.le_of_ble_eq_true rfl) rfl ?_
  intro p e s m below meth c hC
  refine g_iload_n hC dJ42_add_2_0 3 rfl 1 rfl ?_
  refine g_aload_n hC dJ42_add_2_1 2 rfl gRef_r 2 rfl ?_
  refine g_alen (v := nI 20) hC hM_1 3 rfl rfl dJ42_add_2_2 3 rfl ?_
  refine g_icmp_ne hC dJ42_add_2_3 11 rfl 6 rfl (fun c_1 => ?_) (fun c_1 => ?_)
  · replace c_1 : ¬ n = 20 := nn_neq (by omega) (by omega) c_1
    refine g_aload_n hC dJ42_add_2_11 2 rfl gRef_r 12 rfl ?_
    refine g_iload_n hC dJ42_add_2_12 3 rfl 13 rfl ?_
    refine g_aload_n hC dJ42_add_2_13 1 rfl gRef_r 14 rfl ?_
    refine g_astq hC hM_1 3 rfl (gOf.of hC.K cI16 hM_2) (Or.inr q3460) (vp_in_nI (by omega) (by omega)) n (nI_clamp (by omega)) dJ42_add_2_14 15 rfl (fun M2 hU3 => ?_)
    refine g_aload_n hC dJ42_add_2_15 0 rfl gRef_r 16 rfl ?_
    refine g_iload_n hC dJ42_add_2_16 3 rfl 17 rfl ?_
    refine g_iconst hC dJ42_add_2_17 ki_1 18 rfl ?_
    refine g_iadd hC dJ42_add_2_18 19 rfl ?_
    refine g_topi (y := nI (n + 1)) (nI_a (a := n) (b := 1) (c := (n + 1)) (by omega)) ?_
    refine g_put hC cI29 (hU3.n (gne_oa hM_0 hM_1) hM_0) 2 (Nat.le_of_ble_eq_true rfl) q2755 rfl rfl rfl (Nat.le_of_ble_eq_true rfl) dJ42_add_2_19 (fs' := [.int mz, .ref ad, .int (nI (n + 1))]) rfl 22 rfl (fun M4 hU5 => ?_)
    exact g_vret hC (fun k9 hk9 => ⟨hU5.1, (hU5.n (gne_ao hU3.1 (hU3.n (gne_oa hM_0 hM_1) hM_0)) hU3.1), ((gFr.refl.up hU3 hM_1 (by simp)).up hU5 (hU3.n (gne_oa hM_0 hM_1) hM_0) (by simp)), (by first | exact Nat.le_zero.mp hk9 | omega)⟩) dJ42_add_2_22 (Nat.le_of_ble_eq_true rfl) (Nat.le_of_ble_eq_true rfl)
  · replace c_1 : n = 20 := nn_eq (by omega) (by omega) c_1
    exact absurd c_1 (by omega)
set_option maxHeartbeats 4000000 in
theorem met_AL_add (l : Launch) (G : gG) (M : gM) (al : Nat) (ad : Nat) (mz : Int32) (n : Nat) (fa : Nat → Option Nat) (x9 : Nat) (xt : Nat × Nat) (x1 : Int32) (x2 : Int32) (x3 : Int32) (x4 : Int32) (x5 : Int32) (hn : n < 20) (hM_0 : M al = some ((7, 3), .inr (29, [.int mz, .ref ad, .int (nI n)]))) (hM_1 : M ad = some ((7, 4), .inl (gcs G 3, 20, .inr (.inr (.inr (.inr fa)))))) (hM_2 : M x9 = some (xt, .inr (16, [.int x1, .int x2, .int x3, .int x4, .int x5]))) : Met l yJ42_add (ws_ yJ42_add cJ42_add 2 (some .boolean)) ({ frames := 1, cells := 0, slots := 0, locals := 23 }) (gPc G [.ref al, .ref x9] M) (gQi G (fun r9 M9 k9 => r9 = 1 ∧ M9 al = some ((7, 3), .inr (29, [.int (mz + 1), .ref ad, .int (nI (n + 1))])) ∧ M9 ad = some ((7, 4), .inl (gcs G 3, 20, .inr (.inr (.inr (.inr (va_up fa n (some x9))))))) ∧ gFr (gL [al, ad]) M M9 ∧ k9 = 0)) 0 0 (gA G) := by
  refine gMet [(0, .ref al), (1, .ref x9)] (by decide) (Nat.le_of_ble_eq_true rfl) rfl ?_
  intro p e s m below meth c hC
  refine g_aload_n hC dJ42_add_0 0 rfl gRef_r 1 rfl ?_
  refine g_dup hC dJ42_add_1 rfl 2 rfl ?_
  refine g_getU (v := .int mz) hC cI29 hM_0 0 (Nat.le_of_ble_eq_true rfl) q212 q209 rfl dJ42_add_2 5 rfl ?_
  refine g_iconst hC dJ42_add_5 ki_1 6 rfl ?_
  refine g_iadd hC dJ42_add_6 7 rfl ?_
  refine g_putU hC cI29 hM_0 0 (Nat.le_of_ble_eq_true rfl) q212 q209 rfl rfl rfl (Nat.le_of_ble_eq_true rfl) dJ42_add_7 (fs' := [.int (mz + 1), .ref ad, .int (nI n)]) rfl 10 rfl (fun M1 hU2 => ?_)
  refine g_aload_n hC dJ42_add_10 0 rfl gRef_r 11 rfl ?_
  refine g_aload_n hC dJ42_add_11 1 rfl gRef_r 12 rfl ?_
  refine g_aload_n hC dJ42_add_12 0 rfl gRef_r 13 rfl ?_
  refine g_get (v := .ref ad) hC cI29 hU2.1 1 (Nat.le_of_ble_eq_true rfl) q2752 rfl dJ42_add_13 16 rfl ?_
  refine g_aload_n hC dJ42_add_16 0 rfl gRef_r 17 rfl ?_
  refine g_get (v := .int (nI n)) hC cI29 hU2.1 2 (Nat.le_of_ble_eq_true rfl) q2755 rfl dJ42_add_17 20 rfl ?_
  refine g_callv (g_V (As := [.ref x9, .ref ad, .int (nI n)]) (rest := []) hC mvJ42_add_2 q2858 (gOf.of hC.K cI29 hU2.1) (met_AL_add2 l G M1 al ad (mz + 1) n fa x9 xt x1 x2 x3 x4 x5 hn hU2.1 (hU2.n (gne_ao hM_1 hM_0) hM_1) (hU2.n (gne_c hM_2 hM_0 (by decide)) hM_2)) ⟨rfl, rfl⟩ ⟨(Nat.le_of_ble_eq_true rfl), (Nat.le_of_ble_eq_true rfl)⟩ rfl (Nat.le_of_ble_eq_true rfl) dJ42_add_20 rfl ⟨(Nat.le_of_ble_eq_true rfl), (Nat.le_of_ble_eq_true rfl)⟩) 0 (Nat.le_of_ble_eq_true rfl) 0 (Nat.le_of_ble_eq_true rfl) 23 rfl (fun M3 k4 hp5 => ?_)
  obtain ⟨hc7, hc8, hF9, hk10⟩ := hp5
  refine g_iconst hC dJ42_add_23 ki_1 24 rfl ?_
  exact g_zret (v := 1) hC (by decide) (fun k9 hk9 => ⟨rfl, hc7, hc8, ((gFr.refl.up hU2 hM_0 (by simp)).trans (hF9.mono (by intro b t hb; simp at hb ⊢; first | done | (rcases hb with rfl | rfl | rfl | rfl <;> simp) | (simp [hb]; done)))), (by first | exact Nat.le_zero.mp hk9 | omega)⟩) dJ42_add_24 (Nat.le_of_ble_eq_true rfl) (Nat.le_of_ble_eq_true rfl)
set_option maxHeartbeats 4000000 in
theorem met_ALi_init (l : Launch) (G : gG) (M : gM) (it : Nat) (al : Nat) (ad : Nat) (mz : Int32) (n : Nat)  (hM_0 : M it = some ((7, 5), .inr (30, [.int 0, .int 0, .int 0, .null]))) (hM_1 : M al = some ((7, 3), .inr (29, [.int mz, .ref ad, .int (nI n)]))) : Met l yJ32_init (ws_ yJ32_init cJ32_init 2 none) ({ frames := 1, cells := 0, slots := 0, locals := 12 }) (gPc G [.ref it, .ref al] M) (gQv G (fun M9 k9 => M9 it = some ((7, 5), .inr (30, [.int 0, .int (-1), .int mz, .ref al])) ∧ gFr (gL [it]) M M9 ∧ k9 = 0)) 0 0 (gA G) := by
  refine gMet [(0, .ref it), (1, .ref al)] (by decide) (Nat.le_of_ble_eq_true rfl) rfl ?_
  intro p e s m below meth c hC
  refine g_aload_n hC dJ32_init_0 0 rfl gRef_r 1 rfl ?_
  refine g_aload_n hC dJ32_init_1 1 rfl gRef_r 2 rfl ?_
  refine g_putF hC cI30 hM_0 3 (Nat.le_of_ble_eq_true rfl) q1913 rfl rfl rfl rfl (Nat.le_of_ble_eq_true rfl) dJ32_init_2 (fs' := [.int 0, .int 0, .int 0, .ref al]) rfl 5 rfl (fun M1 hU2 => ?_)
  refine g_aload_n hC dJ32_init_5 0 rfl gRef_r 6 rfl ?_
  refine g_objInit hC q1906 q176 q177 dJ32_init_6 (Nat.le_of_ble_eq_true rfl) (Nat.le_of_ble_eq_true rfl) 9 rfl ?_
  refine g_aload_n hC dJ32_init_9 0 rfl gRef_r 10 rfl ?_
  refine g_iconst hC dJ32_init_10 ki_m1 11 rfl ?_
  refine g_put hC cI30 hU2.1 1 (Nat.le_of_ble_eq_true rfl) q1911 rfl rfl rfl (Nat.le_of_ble_eq_true rfl) dJ32_init_11 (fs' := [.int 0, .int (-1), .int 0, .ref al]) rfl 14 rfl (fun M3 hU4 => ?_)
  refine g_aload_n hC dJ32_init_14 0 rfl gRef_r 15 rfl ?_
  refine g_aload_n hC dJ32_init_15 0 rfl gRef_r 16 rfl ?_
  refine g_get (v := .ref al) hC cI30 hU4.1 3 (Nat.le_of_ble_eq_true rfl) q1913 rfl dJ32_init_16 19 rfl ?_
  refine g_getU (v := .int mz) hC cI29 (hU4.n (gne_c (hU2.n (gne_c hM_1 hM_0 (by decide)) hM_1) hU2.1 (by decide)) (hU2.n (gne_c hM_1 hM_0 (by decide)) hM_1)) 0 (Nat.le_of_ble_eq_true rfl) q208 q209 rfl dJ32_init_19 22 rfl ?_
  refine g_put hC cI30 hU4.1 2 (Nat.le_of_ble_eq_true rfl) q1912 rfl rfl rfl (Nat.le_of_ble_eq_true rfl) dJ32_init_22 (fs' := [.int 0, .int (-1), .int mz, .ref al]) rfl 25 rfl (fun M5 hU6 => ?_)
  have hH7 := (hU6.n (gne_c (hU4.n (gne_c (hU2.n (gne_c hM_1 hM_0 (by decide)) hM_1) hU2.1 (by decide)) (hU2.n (gne_c hM_1 hM_0 (by decide)) hM_1)) hU4.1 (by decide)) (hU4.n (gne_c (hU2.n (gne_c hM_1 hM_0 (by decide)) hM_1) hU2.1 (by decide)) (hU2.n (gne_c hM_1 hM_0 (by decide)) hM_1)))
  exact g_vret hC (fun k9 hk9 => ⟨hU6.1, (((gFr.refl.up hU2 hM_0 (by simp)).up hU4 hU2.1 (by simp)).up hU6 hU4.1 (by simp)), (by first | exact Nat.le_zero.mp hk9 | omega)⟩) dJ32_init_25 (Nat.le_of_ble_eq_true rfl) (Nat.le_of_ble_eq_true rfl)
set_option maxHeartbeats 4000000 in
theorem met_AL_iterator (l : Launch) (G : gG) (M : gM) (al : Nat) (ad : Nat) (mz : Int32) (n : Nat)  (hM_0 : M al = some ((7, 3), .inr (29, [.int mz, .ref ad, .int (nI n)]))) : Met l yJ42_iterator (ws_ yJ42_iterator cJ42_iterator 1 (some (.object "java/util/Iterator"))) ({ frames := 2, cells := 1, slots := 4, locals := 33 }) (gPc G [.ref al] M) (gQq G (fun r9 M9 k9 => ∃ it : Nat, r9 = (some it) ∧ M9 it = some ((7, 5), .inr (30, [.int 0, .int (-1), .int mz, .ref al])) ∧ gFr (gL []) M M9 ∧ k9 ≤ 1)) 1 4 (gA G) := by
  refine gMet [(0, .ref al)] (by decide) (Nat.le_of_ble_eq_true rfl) rfl ?_
  intro p e s m below meth c hC
  refine g_new hC cI30 q2883 q2884 q150 df30 (7, 5) (Nat.le_of_ble_eq_true rfl) (Nat.le_of_ble_eq_true rfl) 1 (Nat.le_of_ble_eq_true rfl) 4 (Nat.le_of_ble_eq_true rfl) dJ42_iterator_0 3 rfl (fun a1 M2 hN3 => ?_)
  refine g_dup hC dJ42_iterator_3 rfl 4 rfl ?_
  refine g_aload_n hC dJ42_iterator_4 0 rfl gRef_r 5 rfl ?_
  refine g_callv (g_I (As := [.ref al]) (rest := [.ref a1]) hC miJ32_init q2885 (met_ALi_init l G M2 a1 al ad mz n hN3.2.1 (hN3.n hM_0)) ⟨rfl, rfl⟩ ⟨(Nat.le_of_ble_eq_true rfl), (Nat.le_of_ble_eq_true rfl)⟩ rfl (Nat.le_of_ble_eq_true rfl) dJ42_iterator_5 rfl ⟨(Nat.le_of_ble_eq_true rfl), (Nat.le_of_ble_eq_true rfl)⟩) 1 (Nat.le_of_ble_eq_true rfl) 4 (Nat.le_of_ble_eq_true rfl) 8 rfl (fun M4 k5 hp6 => ?_)
  obtain ⟨hc8, hF9, hk10⟩ := hp6
  exact g_aret (v := some a1) hC (by first | exact Or.inl ⟨_, rfl⟩ | exact Or.inr ⟨_, rfl⟩) (fun k9 hk9 => ⟨a1, rfl, hc8, ((gFr.refl.nw hN3).trf hF9 (fun b t e hb hn => (gno (hN3.ne (gFr.refl b t e hb hn)) gno0))), (by first | exact Nat.le_zero.mp hk9 | omega)⟩) dJ42_iterator_8 (Nat.le_of_ble_eq_true rfl) (Nat.le_of_ble_eq_true rfl)
set_option maxHeartbeats 4000000 in
theorem met_ALi_hasNext (l : Launch) (G : gG) (M : gM) (it : Nat) (i : Nat) (lr : Int32) (al : Nat) (ad : Nat) (mz : Int32) (n : Nat) (hi : i ≤ n) (hn : n ≤ 20) (hM_0 : M it = some ((7, 5), .inr (30, [.int (nI i), .int lr, .int mz, .ref al]))) (hM_1 : M al = some ((7, 3), .inr (29, [.int mz, .ref ad, .int (nI n)]))) : Met l yJ32_hasNext (ws_ yJ32_hasNext cJ32_hasNext 1 (some .boolean)) ({ frames := 0, cells := 0, slots := 0, locals := 0 }) (gPc G [.ref it] M) (gQi G (fun r9 M9 k9 => r9 = (bI (decide (i < n))) ∧ M9 = M ∧ k9 = 0)) 0 0 (gA G) := by
  refine gMet [(0, .ref it)] (by decide) (Nat.le_of_ble_eq_true rfl) rfl ?_
  intro p e s m below meth c hC
  refine g_aload_n hC dJ32_hasNext_0 0 rfl gRef_r 1 rfl ?_
  refine g_get (v := .int (nI i)) hC cI30 hM_0 0 (Nat.le_of_ble_eq_true rfl) q1910 rfl dJ32_hasNext_1 4 rfl ?_
  refine g_aload_n hC dJ32_hasNext_4 0 rfl gRef_r 5 rfl ?_
  refine g_get (v := .ref al) hC cI30 hM_0 3 (Nat.le_of_ble_eq_true rfl) q1913 rfl dJ32_hasNext_5 8 rfl ?_
  refine g_getN (v := .int (nI n)) hC cI29 hM_1 2 (Nat.le_of_ble_eq_true rfl) q2754 rfl dJ32_hasNext_8 11 rfl ?_
  refine g_icmp_eq hC dJ32_hasNext_11 18 rfl 14 rfl (fun c_1 => ?_) (fun c_1 => ?_)
  · replace c_1 : i = n := nn_eq (by omega) (by omega) c_1
    refine g_iconst hC dJ32_hasNext_18 ki_0 19 rfl ?_
    exact g_zret (v := 0) hC (by decide) (fun k9 hk9 => ⟨(bI_nd (by omega)), rfl, Nat.le_zero.mp hk9⟩) dJ32_hasNext_19 (Nat.le_of_ble_eq_true rfl) (Nat.le_of_ble_eq_true rfl)
  · replace c_1 : ¬ i = n := nn_neq (by omega) (by omega) c_1
    refine g_iconst hC dJ32_hasNext_14 ki_1 15 rfl ?_
    refine g_goto hC dJ32_hasNext_15 19 rfl ?_
    exact g_zret (v := 1) hC (by decide) (fun k9 hk9 => ⟨(bI_d (by omega)), rfl, Nat.le_zero.mp hk9⟩) dJ32_hasNext_19 (Nat.le_of_ble_eq_true rfl) (Nat.le_of_ble_eq_true rfl)
set_option maxHeartbeats 4000000 in
theorem met_ALi_check (l : Launch) (G : gG) (M : gM) (it : Nat) (i : Nat) (lr : Int32) (al : Nat) (ad : Nat) (mz : Int32) (n : Nat)  (hM_0 : M it = some ((7, 5), .inr (30, [.int (nI i), .int lr, .int mz, .ref al]))) (hM_1 : M al = some ((7, 3), .inr (29, [.int mz, .ref ad, .int (nI n)]))) : Met l yJ32_checkForComodification (ws_ yJ32_checkForComodification cJ32_checkForComodification 1 none) ({ frames := 0, cells := 0, slots := 0, locals := 0 }) (gPc G [.ref it] M) (gQv G (fun M9 k9 => M9 = M ∧ k9 = 0)) 0 0 (gA G) := by
  refine gMet [(0, .ref it)] (by decide) (Nat.le_of_ble_eq_true rfl) rfl ?_
  intro p e s m below meth c hC
  refine g_aload_n hC dJ32_checkForComodification_0 0 rfl gRef_r 1 rfl ?_
  refine g_get (v := .ref al) hC cI30 hM_0 3 (Nat.le_of_ble_eq_true rfl) q1913 rfl dJ32_checkForComodification_1 4 rfl ?_
  refine g_getU (v := .int mz) hC cI29 hM_1 0 (Nat.le_of_ble_eq_true rfl) q208 q209 rfl dJ32_checkForComodification_4 7 rfl ?_
  refine g_aload_n hC dJ32_checkForComodification_7 0 rfl gRef_r 8 rfl ?_
  refine g_get (v := .int mz) hC cI30 hM_0 2 (Nat.le_of_ble_eq_true rfl) q1912 rfl dJ32_checkForComodification_8 11 rfl ?_
  refine g_icmp_eq hC dJ32_checkForComodification_11 22 rfl 14 rfl (fun c_1 => ?_) (fun c_1 => ?_)
  · exact g_vret hC (fun k9 hk9 => ⟨rfl, Nat.le_zero.mp hk9⟩) dJ32_checkForComodification_22 (Nat.le_of_ble_eq_true rfl) (Nat.le_of_ble_eq_true rfl)
  · exact absurd rfl c_1
set_option maxHeartbeats 4000000 in
theorem met_ALi_next (l : Launch) (G : gG) (M : gM) (it : Nat) (i : Nat) (lr : Int32) (al : Nat) (ad : Nat) (mz : Int32) (n : Nat) (fa : Nat → Option Nat) (e9 : Nat) (hi : i < n) (hn : n ≤ 20) (he : fa i = some e9) (hM_0 : M it = some ((7, 5), .inr (30, [.int (nI i), .int lr, .int mz, .ref al]))) (hM_1 : M al = some ((7, 3), .inr (29, [.int mz, .ref ad, .int (nI n)]))) (hM_2 : M ad = some ((7, 4), .inl (gcs G 3, 20, .inr (.inr (.inr (.inr fa)))))) : Met l yJ32_next (ws_ yJ32_next cJ32_next 3 (some (.object "java/lang/Object"))) ({ frames := 1, cells := 0, slots := 0, locals := 20 }) (gPc G [.ref it] M) (gQq G (fun r9 M9 k9 => r9 = (some e9) ∧ M9 it = some ((7, 5), .inr (30, [.int (nI (i + 1)), .int (nI i), .int mz, .ref al])) ∧ gFr (gL [it]) M M9 ∧ k9 = 0)) 0 0 (gA G) := by
  refine gMet [(0, .ref it)] (by decide) (Nat.le_of_ble_eq_true rfl) rfl ?_
  intro p e s m below meth c hC
  refine g_aload_n hC dJ32_next_0 0 rfl gRef_r 1 rfl ?_
  refine g_callvP (g_V (As := []) (rest := []) hC mvJ32_checkForComodification q1698 (gOf.of hC.K cI30 hM_0) (met_ALi_check l G M it i lr al ad mz n hM_0 hM_1) ⟨rfl, rfl⟩ ⟨(Nat.le_of_ble_eq_true rfl), (Nat.le_of_ble_eq_true rfl)⟩ rfl (Nat.le_of_ble_eq_true rfl) dJ32_next_1 rfl ⟨(Nat.le_of_ble_eq_true rfl), (Nat.le_of_ble_eq_true rfl)⟩) 4 rfl 0 (Nat.le_of_ble_eq_true rfl) ?_
  refine g_aload_n hC dJ32_next_4 0 rfl gRef_r 5 rfl ?_
  refine g_get (v := .int (nI i)) hC cI30 hM_0 0 (Nat.le_of_ble_eq_true rfl) q1910 rfl dJ32_next_5 8 rfl ?_
  refine g_istore_n hC dJ32_next_8 rfl (Nat.le_of_ble_eq_true rfl) [(1, .int (nI i)), (0, .ref it)] rfl 9 rfl ?_
  refine g_iload_n hC dJ32_next_9 0 rfl 10 rfl ?_
  refine g_aload_n hC dJ32_next_10 1 rfl gRef_r 11 rfl ?_
  refine g_get (v := .ref al) hC cI30 hM_0 3 (Nat.le_of_ble_eq_true rfl) q1913 rfl dJ32_next_11 14 rfl ?_
  refine g_getN (v := .int (nI n)) hC cI29 hM_1 2 (Nat.le_of_ble_eq_true rfl) q2754 rfl dJ32_next_14 17 rfl ?_
  refine g_icmp_lt hC dJ32_next_17 28 rfl 20 rfl (fun c_1 => ?_) (fun c_1 => ?_)
  · replace c_1 : i < n := nn_lt (by omega) (by omega) c_1
    refine g_aload_n hC dJ32_next_28 1 rfl gRef_r 29 rfl ?_
    refine g_get (v := .ref al) hC cI30 hM_0 3 (Nat.le_of_ble_eq_true rfl) q1913 rfl dJ32_next_29 32 rfl ?_
    refine g_get (v := .ref ad) hC cI29 hM_1 1 (Nat.le_of_ble_eq_true rfl) q2753 rfl dJ32_next_32 35 rfl ?_
    refine g_astore_n hC dJ32_next_35 rfl gRef_r (Nat.le_of_ble_eq_true rfl) [(2, .ref ad), (1, .int (nI i)), (0, .ref it)] rfl 36 rfl ?_
    refine g_iload_n hC dJ32_next_36 1 rfl 37 rfl ?_
    refine g_aload_n hC dJ32_next_37 0 rfl gRef_r 38 rfl ?_
    refine g_alen (v := nI 20) hC hM_2 3 rfl rfl dJ32_next_38 39 rfl ?_
    refine g_icmp_lt hC dJ32_next_39 50 rfl 42 rfl (fun c_2 => ?_) (fun c_2 => ?_)
    · replace c_2 : i < 20 := nn_lt (by omega) (by omega) c_2
      refine g_aload_n hC dJ32_next_50 2 rfl gRef_r 51 rfl ?_
      refine g_iload_n hC dJ32_next_51 1 rfl 52 rfl ?_
      refine g_iconst hC dJ32_next_52 ki_1 53 rfl ?_
      refine g_iadd hC dJ32_next_53 54 rfl ?_
      refine g_topi (y := nI (i + 1)) (nI_a (a := i) (b := 1) (c := (i + 1)) (by omega)) ?_
      refine g_put hC cI30 hM_0 0 (Nat.le_of_ble_eq_true rfl) q1910 rfl rfl rfl (Nat.le_of_ble_eq_true rfl) dJ32_next_54 (fs' := [.int (nI (i + 1)), .int lr, .int mz, .ref al]) rfl 57 rfl (fun M3 hU4 => ?_)
      refine g_aload_n hC dJ32_next_57 0 rfl gRef_r 58 rfl ?_
      refine g_aload_n hC dJ32_next_58 2 rfl gRef_r 59 rfl ?_
      refine g_iload_n hC dJ32_next_59 1 rfl 60 rfl ?_
      refine g_dup_x1 hC dJ32_next_60 rfl rfl 61 rfl ?_
      refine g_put hC cI30 hU4.1 1 (Nat.le_of_ble_eq_true rfl) q1911 rfl rfl rfl (Nat.le_of_ble_eq_true rfl) dJ32_next_61 (fs' := [.int (nI (i + 1)), .int (nI i), .int mz, .ref al]) rfl 64 rfl (fun M5 hU6 => ?_)
      refine g_aldq (r := some e9) hC (hU6.n (gne_ao (hU4.n (gne_ao hM_2 hM_0) hM_2) hU4.1) (hU4.n (gne_ao hM_2 hM_0) hM_2)) 3 rfl (vp_in_nI (by omega) (by omega)) ((congrArg fa (nI_clamp (by omega))).trans he) dJ32_next_64 65 rfl ?_
      exact g_aret (v := some e9) hC (by first | exact Or.inl ⟨_, rfl⟩ | exact Or.inr ⟨_, rfl⟩) (fun k9 hk9 => ⟨rfl, hU6.1, ((gFr.refl.up hU4 hM_0 (by simp)).up hU6 hU4.1 (by simp)), (by first | exact Nat.le_zero.mp hk9 | omega)⟩) dJ32_next_65 (Nat.le_of_ble_eq_true rfl) (Nat.le_of_ble_eq_true rfl)
    · replace c_2 : 20 ≤ i := nn_nlt (by omega) (by omega) c_2
      exact absurd c_2 (by omega)
  · replace c_1 : n ≤ i := nn_nlt (by omega) (by omega) c_1
    exact absurd c_1 (by omega)
abbrev wtE := Nat × rqR
def alA (W : List wtE) : Nat → Option Nat := fun i => (W[i]?).map Prod.fst
theorem alA_nil : (fun _ => none : Nat → Option Nat) = alA [] := by funext i; simp [alA]
theorem alA_add {W : List wtE} {x : wtE} : va_up (alA W) W.length (some x.1) = alA (W ++ [x]) := by
  funext i
  simp only [va_up, alA]
  by_cases h : i = W.length
  · subst h; simp
  · rw [if_neg h]
    by_cases h2 : i < W.length
    · rw [List.getElem?_append_left h2]
    · rw [List.getElem?_eq_none (by omega), List.getElem?_eq_none (by simp; omega)]
def wfs (M : gM) (W : List wtE) : Prop := ∀ e ∈ W, M e.1 = some ((7, 2), .inr (16, [.int e.2.1, .int e.2.2.1, .int (bI (decide (e.2.2.2.1 = 1))), .int e.2.2.2.2.1, .int e.2.2.2.2.2]))
theorem wfs.fr {M M' : gM} {W : List wtE} (h : wfs M W) (hF : gFr (gT (fun t => ¬ tgE 7 2 t)) M M') : wfs M' W := fun e he => hF _ _ _ (h e he) (fun q => q ⟨rfl, rfl⟩)
theorem wfs.nil {M : gM} : wfs M [] := fun e he => nomatch he
theorem wfs.add {M : gM} {W : List wtE} {x : wtE} (h : wfs M W) (hx : M x.1 = some ((7, 2), .inr (16, [.int x.2.1, .int x.2.2.1, .int (bI (decide (x.2.2.2.1 = 1))), .int x.2.2.2.2.1, .int x.2.2.2.2.2]))) : wfs M (W ++ [x]) := fun e he => by
  rcases List.mem_append.mp he with q | q
  · exact h e q
  · rw [List.mem_singleton.mp q]; exact hx
theorem wfs.kp {M M' : gM} {W : List wtE} (h : wfs M W) (hF : ∀ a y, M a = some y → y.1 = (7, 2) → M' a = some y) : wfs M' W := fun e he => hF _ _ (h e he) rfl
theorem rq_ok {h : Nat → Int32} {p : Nat} (e : (rqT h p).2.isSome = true) : ∃ t, (wqT h p).2 = some t ∧ h (wqT h p).1 = 59 ∧ rqT h p = ((wqT h p).1 + 1, some t) := by
  cases e1 : (wqT h p).2 with
  | none => rw [rqT_n e1] at e; cases e
  | some t =>
    by_cases h9 : h (wqT h p).1 = 59
    · exact ⟨t, rfl, h9, rqT_e e1 h9⟩
    · rw [rqT_ne e1 h9] at e; cases e
theorem flt_n {h : Nat → Int32} {lc F p pf : Nat} (h1 : p < lc) (e : (wqT h p).2 = none) (hF : 1 ≤ F) (hf : fltT h lc F p = nI pf) : nI (wqT h p).1 = nI pf := by
  rw [← hf, ← fltT_no h1 (by rw [rqT_n e]; decide) hF, rqT_n e]
theorem flt_ne {h : Nat → Int32} {lc F p pf : Nat} {t : rqR} (h1 : p < lc) (e : (wqT h p).2 = some t) (h9 : ¬ h (wqT h p).1 = 59) (hF : 1 ≤ F) (hf : fltT h lc F p = nI pf) : nI (wqT h p).1 = nI pf := by
  rw [← hf, ← fltT_no h1 (by rw [rqT_ne e h9]; decide) hF, rqT_ne e h9]
theorem rq_7 {h : Nat → Int32} {p : Nat} {t : rqR} (e : (rqT h p).2 = some t) : p + 7 ≤ (rqT h p).1 := by
  obtain ⟨q1, a1, a2, a3, -⟩ := rqT_some e
  omega
set_option maxHeartbeats 4000000 in
theorem met_Rd_all (l : Launch) (G : gG) (M : gM) (rd : Nat) (xa : Nat) (of : Nat) (sv : Nat) (ms : Nat) (tx : Nat) (lc : Nat) (txf : Nat → Int32) (hlc : lc ≤ 120) (htx : ∀ q, 0 ≤ txf q ∧ txf q ≤ 127) (hf : fltT (hereT txf lc) lc (lc + 1) 0 = -5) (hM_0 : M rd = some ((7, 0), .inr (14, [.int (nI 0), .ref xa]))) (hM_1 : M xa = some ((8, 0), .inr (0, [.ref of, .ref sv, .ref ms, .ref tx, .int (nI lc)]))) (hM_2 : M tx = some ((8, 5), .inl (gcs G 1, 120, .inl txf))) : Met l yX18_all (ws_ yX18_all cX18_all 2 (some (.object "java/util/ArrayList"))) ({ frames := 5, cells := 30, slots := 400, locals := 114 }) (gPc G [.ref rd] M) (gQq G (fun r9 M9 k9 => ∃ al : Nat, ∃ ad : Nat, ∃ mz : Int32, ∃ W : List wtE, r9 = (some al) ∧ M9 al = some ((7, 3), .inr (29, [.int mz, .ref ad, .int (nI W.length)])) ∧ M9 ad = some ((7, 4), .inl (gcs G 3, 20, .inr (.inr (.inr (.inr (alA W)))))) ∧ wfs M9 W ∧ gFr (gT (fun t => t.1 = 7)) M M9 ∧ W.map Prod.snd = wsT (hereT txf lc) lc (lc + 1) 0 ∧ W.length ≤ 17 ∧ k9 ≤ 30)) 30 400 (gA G) := by
  refine gMet [(0, .ref rd)] (by decide) (Nat.le_of_ble_eq_true rfl) rfl ?_
  intro p e s m below meth c hC
  refine g_new hC cI29 q2744 q1896 q167 df29 (7, 3) (Nat.le_of_ble_eq_true rfl) (Nat.le_of_ble_eq_true rfl) 1 (Nat.le_of_ble_eq_true rfl) 3 (Nat.le_of_ble_eq_true rfl) dX18_all_0 3 rfl (fun a1 M2 hN3 => ?_)
  refine g_dup hC dX18_all_3 rfl 4 rfl ?_
  refine g_bipush hC dX18_all_4 kb_20 6 rfl ?_
  refine g_callv (g_I (As := [.int 20]) (rest := [.ref a1]) hC miJ42_init q2745 (met_AL_init l G M2 a1 hN3.2.1) ⟨rfl, rfl⟩ ⟨(Nat.le_of_ble_eq_true rfl), (Nat.le_of_ble_eq_true rfl)⟩ rfl (Nat.le_of_ble_eq_true rfl) dX18_all_6 rfl ⟨(Nat.le_of_ble_eq_true rfl), (Nat.le_of_ble_eq_true rfl)⟩) 2 (Nat.le_of_ble_eq_true rfl) 23 (Nat.le_of_ble_eq_true rfl) 9 rfl (fun M4 k5 hp6 => ?_)
  obtain ⟨ad_8, hc9, hc10, hF11, hk12⟩ := hp6
  refine g_astore_n hC dX18_all_9 rfl gRef_r (Nat.le_of_ble_eq_true rfl) [(1, .ref a1), (0, .ref rd)] rfl 10 rfl ?_
  have hZ13 := hc10
  rw [alA_nil] at hZ13
  have loop10 : ∀ (n9 : Nat) (p1 : Nat) (W : List wtE) (F : Nat) (mz : Int32) (al : Nat) (ad : Nat) (ML : gM), (hp : p1 ≤ lc) → (hF : lc + 1 ≤ F + p1) → (h7 : 7 * W.length ≤ p1) → (hfl : fltT (hereT txf lc) lc F p1 = -5) → (hws : W.map Prod.snd ++ wsT (hereT txf lc) lc F p1 = wsT (hereT txf lc) lc (lc + 1) 0) → F < n9 → (ML rd = some ((7, 0), .inr (14, [.int (nI p1), .ref xa]))) → (ML xa = some ((8, 0), .inr (0, [.ref of, .ref sv, .ref ms, .ref tx, .int (nI lc)]))) → (ML tx = some ((8, 5), .inl (gcs G 1, 120, .inl txf))) → (ML al = some ((7, 3), .inr (29, [.int mz, .ref ad, .int (nI W.length)]))) → (ML ad = some ((7, 4), .inl (gcs G 3, 20, .inr (.inr (.inr (.inr (alA W))))))) → (wfs ML W) → gFr (gT (fun t => t.1 = 7)) M ML → gJ p l e ({ frames := 5, cells := 30, slots := 400, locals := 114 } : Room) s m ([.ref rd] : List Value).toArray below meth c G 2 (MQ below (gQq G (fun r9 M9 k9 => ∃ al : Nat, ∃ ad : Nat, ∃ mz : Int32, ∃ W : List wtE, r9 = (some al) ∧ M9 al = some ((7, 3), .inr (29, [.int mz, .ref ad, .int (nI W.length)])) ∧ M9 ad = some ((7, 4), .inl (gcs G 3, 20, .inr (.inr (.inr (.inr (alA W)))))) ∧ wfs M9 W ∧ gFr (gT (fun t => t.1 = 7)) M M9 ∧ W.map Prod.snd = wsT (hereT txf lc) lc (lc + 1) 0 ∧ W.length ≤ 17 ∧ k9 ≤ 30)) ([.ref rd] : List Value).toArray s 30 400 (gA G)) (W.length + 2) (6 * W.length + 40) ML 10 [(0, .ref rd), (1, .ref al)] [] := by
    intro n9
    induction n9 with
    | zero => intro p1 W F mz al ad ML hp hF h7 hfl hws hmu; exact absurd hmu (Nat.not_lt_zero _)
    | succ n9 ih =>
      intro p1 W F mz al ad ML hp hF h7 hfl hws hmu hL_0 hL_1 hL_2 hL_3 hL_4 hLp_0 hLF
      refine g_aload_n hC dX18_all_10 0 rfl gRef_r 11 rfl ?_
      refine g_get (v := .int (nI p1)) hC cI14 hL_0 0 (Nat.le_of_ble_eq_true rfl) q2733 rfl dX18_all_11 14 rfl ?_
      refine g_aload_n hC dX18_all_14 0 rfl gRef_r 15 rfl ?_
      refine g_get (v := .ref xa) hC cI14 hL_0 1 (Nat.le_of_ble_eq_true rfl) q2734 rfl dX18_all_15 18 rfl ?_
      refine g_getN (v := .int (nI lc)) hC cI0 hL_1 4 (Nat.le_of_ble_eq_true rfl) q522 rfl dX18_all_18 21 rfl ?_
      refine g_icmp_ge hC dX18_all_21 42 rfl 24 rfl (fun c_14 => ?_) (fun c_14 => ?_)
      · replace c_14 : lc ≤ p1 := nn_le (by omega) (by omega) c_14
        refine g_aload_n hC dX18_all_42 1 rfl gRef_r 43 rfl ?_
        exact g_aret (v := some al) hC (by first | exact Or.inl ⟨_, rfl⟩ | exact Or.inr ⟨_, rfl⟩) (fun k9 hk9 => ⟨al, ad, mz, W, rfl, hL_3, hL_4, hLp_0, hLF, (by rw [← hws, wsT_end c_14, List.append_nil]), (by omega), (by first | exact Nat.le_zero.mp hk9 | omega)⟩) dX18_all_43 (by first | omega | (dsimp only; omega)) (by first | omega | (dsimp only; omega))
      · replace c_14 : p1 < lc := nn_nle (by omega) (by omega) c_14
        obtain ⟨hi9, hf9⟩ := fltT_ok c_14 hlc (by omega) hfl
        obtain ⟨t9, hw9, h59, he9⟩ := rq_ok hi9
        have ht9 := congrArg Prod.snd he9
        have h79 := rq_7 ht9
        have hin9 := rqT_in hi9
        have hwl := congrArg Prod.fst he9
        replace hwl : (rqT (hereT txf lc) p1).1 = (wqT (hereT txf lc) p1).1 + 1 := hwl
        refine g_aload_n hC dX18_all_24 1 rfl gRef_r 25 rfl ?_
        refine g_aload_n hC dX18_all_25 0 rfl gRef_r 26 rfl ?_
        refine g_callq (g_V (As := []) (rest := [.ref al]) hC mvX18_wanted q2762 (gOf.of hC.K cI14 hL_0) (met_Rd_wanted l G ML rd xa of sv ms tx lc txf p1 t9 hlc (by first | assumption | decide | omega | (dsimp only; omega) | simp_all) htx (by first | assumption | decide | omega | (dsimp only; omega) | simp_all) hw9 hL_0 hL_1 hL_2) ⟨rfl, rfl⟩ ⟨(Nat.le_of_ble_eq_true rfl), (Nat.le_of_ble_eq_true rfl)⟩ rfl (Nat.le_of_ble_eq_true rfl) dX18_all_26 rfl ⟨(by first | omega | (dsimp only; omega)), (by first | omega | (dsimp only; omega))⟩) (W.length + 2 + 1) (by first | omega | (dsimp only; omega)) (6 * W.length + 40 + 5) (by first | omega | (dsimp only; omega)) 29 rfl (fun r18 M15 k16 hp17 => ?_)
        obtain ⟨a9_19, rfl, hc20, hc21, hF22, hk23⟩ := hp17
        refine g_calli (g_V (As := [.ref a9_19]) (rest := []) hC mvJ42_add q2854 (gOf.of hC.K cI29 (hF22 _ _ _ hL_3 (gno (gne_c hL_3 hL_0 (by decide)) gno0))) (met_AL_add l G M15 al ad mz W.length (alA W) a9_19 (7, 2) t9.1 t9.2.1 (bI (decide (t9.2.2.1 = 1))) t9.2.2.2.1 t9.2.2.2.2 (by omega) (hF22 _ _ _ hL_3 (gno (gne_c hL_3 hL_0 (by decide)) gno0)) (hF22 _ _ _ hL_4 (gno (gne_ao hL_4 hL_0) gno0)) hc21) ⟨rfl, rfl⟩ ⟨(Nat.le_of_ble_eq_true rfl), (Nat.le_of_ble_eq_true rfl)⟩ rfl (Nat.le_of_ble_eq_true rfl) dX18_all_29 rfl ⟨(by first | omega | (dsimp only; omega)), (by first | omega | (dsimp only; omega))⟩) (W.length + 2 + 1) (by first | omega | (dsimp only; omega)) (6 * W.length + 40 + 5) (by first | omega | (dsimp only; omega)) 32 rfl (fun r27 M24 k25 hp26 => ?_)
        obtain ⟨rfl, hc28, hc29, hF30, hk31⟩ := hp26
        have hZ32 := hc29
        rw [alA_add (x := (a9_19, t9))] at hZ32
        have hZ33 : M24 al = some ((7, 3), .inr (29, [.int (mz + 1), .ref ad, .int (nI ((W ++ [(a9_19, t9)]).length))])) := by rw [hc28, List.length_append]; rfl
        have hZ34 : wfs M24 (W ++ [(a9_19, t9)]) := wfs.add (wfs.fr hLp_0 ((gFr.refl.trf hF22 (fun b t e hb hn => (gno (gne_t (gFr.refl b t e hb hn) hL_0 (fun q => hn (by rw [q]; exact (show (fun t => ¬ (tgE 7 2) t) (7, 0) by (try simp only [ndT, tgE, gT, tgR, ndT9, ndW, tg0, Prod.mk.injEq, true_and, and_true, cpyT, msT]); first | done | omega | (simp; done))))) gno0))).trf hF30 (fun b t e hb hn => (gno (gne_t ((gFr.refl.trf hF22 (fun b t e hb hn => (gno (gne_t (gFr.refl b t e hb hn) hL_0 (fun q => hn (by rw [q]; exact (show (fun t => ¬ (tgE 7 2) t) (7, 0) by (try simp only [ndT, tgE, gT, tgR, ndT9, ndW, tg0, Prod.mk.injEq, true_and, and_true, cpyT, msT]); first | done | omega | (simp; done))))) gno0))) b t e hb hn) (hF22 _ _ _ hL_3 (gno (gne_c hL_3 hL_0 (by decide)) gno0)) (fun q => hn (by rw [q]; exact (show (fun t => ¬ (tgE 7 2) t) (7, 3) by (try simp only [ndT, tgE, gT, tgR, ndT9, ndW, tg0, Prod.mk.injEq, true_and, and_true, cpyT, msT]); first | done | omega | (simp; done))))) (gno (gne_t ((gFr.refl.trf hF22 (fun b t e hb hn => (gno (gne_t (gFr.refl b t e hb hn) hL_0 (fun q => hn (by rw [q]; exact (show (fun t => ¬ (tgE 7 2) t) (7, 0) by (try simp only [ndT, tgE, gT, tgR, ndT9, ndW, tg0, Prod.mk.injEq, true_and, and_true, cpyT, msT]); first | done | omega | (simp; done))))) gno0))) b t e hb hn) (hF22 _ _ _ hL_4 (gno (gne_ao hL_4 hL_0) gno0)) (fun q => hn (by rw [q]; exact (show (fun t => ¬ (tgE 7 2) t) (7, 4) by (try simp only [ndT, tgE, gT, tgR, ndT9, ndW, tg0, Prod.mk.injEq, true_and, and_true, cpyT, msT]); first | done | omega | (simp; done))))) gno0))))) (hF30 _ _ _ hc21 (gno (gne_c hc21 (hF22 _ _ _ hL_3 (gno (gne_c hL_3 hL_0 (by decide)) gno0)) (by decide)) (gno (gne_oa hc21 (hF22 _ _ _ hL_4 (gno (gne_ao hL_4 hL_0) gno0))) gno0)))
        refine g_pop hC dX18_all_32 rfl 33 rfl ?_
        refine g_aload_n hC dX18_all_33 0 rfl gRef_r 34 rfl ?_
        refine g_bipush hC dX18_all_34 kb_59 36 rfl ?_
        refine g_callv (g_V (As := [.int 59]) (rest := []) hC mvX18_sign q2804 (gOf.of hC.K cI14 (hF30 _ _ _ hc20 (gno (gne_c hc20 (hF22 _ _ _ hL_3 (gno (gne_c hL_3 hL_0 (by decide)) gno0)) (by decide)) (gno (gne_oa hc20 (hF22 _ _ _ hL_4 (gno (gne_ao hL_4 hL_0) gno0))) gno0)))) (met_Rd_sign l G M24 rd xa of sv ms tx lc txf ((wqT (hereT txf lc) p1).1) 59 hlc (by first | assumption | decide | omega | (dsimp only; omega) | simp_all) htx (by first | assumption | decide | omega | (dsimp only; omega) | simp_all) h59 (hF30 _ _ _ hc20 (gno (gne_c hc20 (hF22 _ _ _ hL_3 (gno (gne_c hL_3 hL_0 (by decide)) gno0)) (by decide)) (gno (gne_oa hc20 (hF22 _ _ _ hL_4 (gno (gne_ao hL_4 hL_0) gno0))) gno0))) (hF30 _ _ _ (hF22 _ _ _ hL_1 (gno (gne_c hL_1 hL_0 (by decide)) gno0)) (gno (gne_c (hF22 _ _ _ hL_1 (gno (gne_c hL_1 hL_0 (by decide)) gno0)) (hF22 _ _ _ hL_3 (gno (gne_c hL_3 hL_0 (by decide)) gno0)) (by decide)) (gno (gne_oa (hF22 _ _ _ hL_1 (gno (gne_c hL_1 hL_0 (by decide)) gno0)) (hF22 _ _ _ hL_4 (gno (gne_ao hL_4 hL_0) gno0))) gno0))) (hF30 _ _ _ (hF22 _ _ _ hL_2 (gno (gne_ao hL_2 hL_0) gno0)) (gno (gne_ao (hF22 _ _ _ hL_2 (gno (gne_ao hL_2 hL_0) gno0)) (hF22 _ _ _ hL_3 (gno (gne_c hL_3 hL_0 (by decide)) gno0))) (gno (gne_t (hF22 _ _ _ hL_2 (gno (gne_ao hL_2 hL_0) gno0)) (hF22 _ _ _ hL_4 (gno (gne_ao hL_4 hL_0) gno0)) (by first | assumption | decide | (intro h; simp only [Prod.mk.injEq] at h; omega) | simp | (intro h; simp at h))) gno0)))) ⟨rfl, rfl⟩ ⟨(Nat.le_of_ble_eq_true rfl), (Nat.le_of_ble_eq_true rfl)⟩ rfl (Nat.le_of_ble_eq_true rfl) dX18_all_36 rfl ⟨(by first | omega | (dsimp only; omega)), (by first | omega | (dsimp only; omega))⟩) (W.length + 2 + 1) (by first | omega | (dsimp only; omega)) (6 * W.length + 40 + 5) (by first | omega | (dsimp only; omega)) 39 rfl (fun M35 k36 hp37 => ?_)
        obtain ⟨hc39, hF40, hk41⟩ := hp37
        have hH42 := (hF40 _ _ _ hZ33 (gno (gne_c hZ33 (hF30 _ _ _ hc20 (gno (gne_c hc20 (hF22 _ _ _ hL_3 (gno (gne_c hL_3 hL_0 (by decide)) gno0)) (by decide)) (gno (gne_oa hc20 (hF22 _ _ _ hL_4 (gno (gne_ao hL_4 hL_0) gno0))) gno0))) (by decide)) gno0))
        have hH43 := (hF40 _ _ _ hZ32 (gno (gne_ao hZ32 (hF30 _ _ _ hc20 (gno (gne_c hc20 (hF22 _ _ _ hL_3 (gno (gne_c hL_3 hL_0 (by decide)) gno0)) (by decide)) (gno (gne_oa hc20 (hF22 _ _ _ hL_4 (gno (gne_ao hL_4 hL_0) gno0))) gno0)))) gno0))
        have hH44 := (hF40 _ _ _ (hF30 _ _ _ hc21 (gno (gne_c hc21 (hF22 _ _ _ hL_3 (gno (gne_c hL_3 hL_0 (by decide)) gno0)) (by decide)) (gno (gne_oa hc21 (hF22 _ _ _ hL_4 (gno (gne_ao hL_4 hL_0) gno0))) gno0))) (gno (gne_c (hF30 _ _ _ hc21 (gno (gne_c hc21 (hF22 _ _ _ hL_3 (gno (gne_c hL_3 hL_0 (by decide)) gno0)) (by decide)) (gno (gne_oa hc21 (hF22 _ _ _ hL_4 (gno (gne_ao hL_4 hL_0) gno0))) gno0))) (hF30 _ _ _ hc20 (gno (gne_c hc20 (hF22 _ _ _ hL_3 (gno (gne_c hL_3 hL_0 (by decide)) gno0)) (by decide)) (gno (gne_oa hc20 (hF22 _ _ _ hL_4 (gno (gne_ao hL_4 hL_0) gno0))) gno0))) (by decide)) gno0))
        have hH45 := (hF40 _ _ _ (hF30 _ _ _ (hF22 _ _ _ hL_1 (gno (gne_c hL_1 hL_0 (by decide)) gno0)) (gno (gne_c (hF22 _ _ _ hL_1 (gno (gne_c hL_1 hL_0 (by decide)) gno0)) (hF22 _ _ _ hL_3 (gno (gne_c hL_3 hL_0 (by decide)) gno0)) (by decide)) (gno (gne_oa (hF22 _ _ _ hL_1 (gno (gne_c hL_1 hL_0 (by decide)) gno0)) (hF22 _ _ _ hL_4 (gno (gne_ao hL_4 hL_0) gno0))) gno0))) (gno (gne_c (hF30 _ _ _ (hF22 _ _ _ hL_1 (gno (gne_c hL_1 hL_0 (by decide)) gno0)) (gno (gne_c (hF22 _ _ _ hL_1 (gno (gne_c hL_1 hL_0 (by decide)) gno0)) (hF22 _ _ _ hL_3 (gno (gne_c hL_3 hL_0 (by decide)) gno0)) (by decide)) (gno (gne_oa (hF22 _ _ _ hL_1 (gno (gne_c hL_1 hL_0 (by decide)) gno0)) (hF22 _ _ _ hL_4 (gno (gne_ao hL_4 hL_0) gno0))) gno0))) (hF30 _ _ _ hc20 (gno (gne_c hc20 (hF22 _ _ _ hL_3 (gno (gne_c hL_3 hL_0 (by decide)) gno0)) (by decide)) (gno (gne_oa hc20 (hF22 _ _ _ hL_4 (gno (gne_ao hL_4 hL_0) gno0))) gno0))) (by decide)) gno0))
        have hH46 := (hF40 _ _ _ (hF30 _ _ _ (hF22 _ _ _ hL_2 (gno (gne_ao hL_2 hL_0) gno0)) (gno (gne_ao (hF22 _ _ _ hL_2 (gno (gne_ao hL_2 hL_0) gno0)) (hF22 _ _ _ hL_3 (gno (gne_c hL_3 hL_0 (by decide)) gno0))) (gno (gne_t (hF22 _ _ _ hL_2 (gno (gne_ao hL_2 hL_0) gno0)) (hF22 _ _ _ hL_4 (gno (gne_ao hL_4 hL_0) gno0)) (by first | assumption | decide | (intro h; simp only [Prod.mk.injEq] at h; omega) | simp | (intro h; simp at h))) gno0))) (gno (gne_ao (hF30 _ _ _ (hF22 _ _ _ hL_2 (gno (gne_ao hL_2 hL_0) gno0)) (gno (gne_ao (hF22 _ _ _ hL_2 (gno (gne_ao hL_2 hL_0) gno0)) (hF22 _ _ _ hL_3 (gno (gne_c hL_3 hL_0 (by decide)) gno0))) (gno (gne_t (hF22 _ _ _ hL_2 (gno (gne_ao hL_2 hL_0) gno0)) (hF22 _ _ _ hL_4 (gno (gne_ao hL_4 hL_0) gno0)) (by first | assumption | decide | (intro h; simp only [Prod.mk.injEq] at h; omega) | simp | (intro h; simp at h))) gno0))) (hF30 _ _ _ hc20 (gno (gne_c hc20 (hF22 _ _ _ hL_3 (gno (gne_c hL_3 hL_0 (by decide)) gno0)) (by decide)) (gno (gne_oa hc20 (hF22 _ _ _ hL_4 (gno (gne_ao hL_4 hL_0) gno0))) gno0)))) gno0))
        have hH47 : wfs M35 (W ++ [(a9_19, t9)]) := (wfs.fr hZ34 (gFr.refl.trf hF40 (fun b t e hb hn => (gno (gne_t (gFr.refl b t e hb hn) (hF30 _ _ _ hc20 (gno (gne_c hc20 (hF22 _ _ _ hL_3 (gno (gne_c hL_3 hL_0 (by decide)) gno0)) (by decide)) (gno (gne_oa hc20 (hF22 _ _ _ hL_4 (gno (gne_ao hL_4 hL_0) gno0))) gno0))) (fun q => hn (by rw [q]; exact (show (fun t => ¬ (tgE 7 2) t) (7, 0) by (try simp only [ndT, tgE, gT, tgR, ndT9, ndW, tg0, Prod.mk.injEq, true_and, and_true, cpyT, msT]); first | done | omega | (simp; done))))) gno0))))
        refine g_goto hC dX18_all_39 10 rfl ?_
        refine gJ.widen (k := (W ++ [(a9_19, t9)]).length + 2) (n := 6 * (W ++ [(a9_19, t9)]).length + 40) (by first | omega | (dsimp only; omega)) (by first | omega | (dsimp only; omega)) ?_
        exact ih ((wqT (hereT txf lc) p1).1 + 1) (W ++ [(a9_19, t9)]) (F - 1) (mz + 1) al ad M35 (by omega) (by omega) (by rw [List.length_append]; simp only [List.length_singleton]; omega) (by rw [← hwl]; exact hf9) (by rw [← hws, ← wsT_go (by omega) ht9 (by omega), ← hwl, List.map_append, List.append_assoc]; rfl) (by omega) hc39 hH45 hH46 hH42 hH43 hH47 (hLF.trans (((gFr.refl.trf hF22 (fun b t e hb hn => (gno (gne_t (gFr.refl b t e hb hn) hL_0 (fun q => hn (by rw [q]; exact (show (fun t => t.1 = 7) (7, 0) by (try simp only [ndT, tgE, gT, tgR, ndT9, ndW, tg0, Prod.mk.injEq, true_and, and_true, cpyT, msT]); first | done | omega | (simp; done))))) gno0))).trf hF30 (fun b t e hb hn => (gno (gne_t ((gFr.refl.trf hF22 (fun b t e hb hn => (gno (gne_t (gFr.refl b t e hb hn) hL_0 (fun q => hn (by rw [q]; exact (show (fun t => t.1 = 7) (7, 0) by (try simp only [ndT, tgE, gT, tgR, ndT9, ndW, tg0, Prod.mk.injEq, true_and, and_true, cpyT, msT]); first | done | omega | (simp; done))))) gno0))) b t e hb hn) (hF22 _ _ _ hL_3 (gno (gne_c hL_3 hL_0 (by decide)) gno0)) (fun q => hn (by rw [q]; exact (show (fun t => t.1 = 7) (7, 3) by (try simp only [ndT, tgE, gT, tgR, ndT9, ndW, tg0, Prod.mk.injEq, true_and, and_true, cpyT, msT]); first | done | omega | (simp; done))))) (gno (gne_t ((gFr.refl.trf hF22 (fun b t e hb hn => (gno (gne_t (gFr.refl b t e hb hn) hL_0 (fun q => hn (by rw [q]; exact (show (fun t => t.1 = 7) (7, 0) by (try simp only [ndT, tgE, gT, tgR, ndT9, ndW, tg0, Prod.mk.injEq, true_and, and_true, cpyT, msT]); first | done | omega | (simp; done))))) gno0))) b t e hb hn) (hF22 _ _ _ hL_4 (gno (gne_ao hL_4 hL_0) gno0)) (fun q => hn (by rw [q]; exact (show (fun t => t.1 = 7) (7, 4) by (try simp only [ndT, tgE, gT, tgR, ndT9, ndW, tg0, Prod.mk.injEq, true_and, and_true, cpyT, msT]); first | done | omega | (simp; done))))) gno0)))).trf hF40 (fun b t e hb hn => (gno (gne_t (((gFr.refl.trf hF22 (fun b t e hb hn => (gno (gne_t (gFr.refl b t e hb hn) hL_0 (fun q => hn (by rw [q]; exact (show (fun t => t.1 = 7) (7, 0) by (try simp only [ndT, tgE, gT, tgR, ndT9, ndW, tg0, Prod.mk.injEq, true_and, and_true, cpyT, msT]); first | done | omega | (simp; done))))) gno0))).trf hF30 (fun b t e hb hn => (gno (gne_t ((gFr.refl.trf hF22 (fun b t e hb hn => (gno (gne_t (gFr.refl b t e hb hn) hL_0 (fun q => hn (by rw [q]; exact (show (fun t => t.1 = 7) (7, 0) by (try simp only [ndT, tgE, gT, tgR, ndT9, ndW, tg0, Prod.mk.injEq, true_and, and_true, cpyT, msT]); first | done | omega | (simp; done))))) gno0))) b t e hb hn) (hF22 _ _ _ hL_3 (gno (gne_c hL_3 hL_0 (by decide)) gno0)) (fun q => hn (by rw [q]; exact (show (fun t => t.1 = 7) (7, 3) by (try simp only [ndT, tgE, gT, tgR, ndT9, ndW, tg0, Prod.mk.injEq, true_and, and_true, cpyT, msT]); first | done | omega | (simp; done))))) (gno (gne_t ((gFr.refl.trf hF22 (fun b t e hb hn => (gno (gne_t (gFr.refl b t e hb hn) hL_0 (fun q => hn (by rw [q]; exact (show (fun t => t.1 = 7) (7, 0) by (try simp only [ndT, tgE, gT, tgR, ndT9, ndW, tg0, Prod.mk.injEq, true_and, and_true, cpyT, msT]); first | done | omega | (simp; done))))) gno0))) b t e hb hn) (hF22 _ _ _ hL_4 (gno (gne_ao hL_4 hL_0) gno0)) (fun q => hn (by rw [q]; exact (show (fun t => t.1 = 7) (7, 4) by (try simp only [ndT, tgE, gT, tgR, ndT9, ndW, tg0, Prod.mk.injEq, true_and, and_true, cpyT, msT]); first | done | omega | (simp; done))))) gno0)))) b t e hb hn) (hF30 _ _ _ hc20 (gno (gne_c hc20 (hF22 _ _ _ hL_3 (gno (gne_c hL_3 hL_0 (by decide)) gno0)) (by decide)) (gno (gne_oa hc20 (hF22 _ _ _ hL_4 (gno (gne_ao hL_4 hL_0) gno0))) gno0))) (fun q => hn (by rw [q]; exact (show (fun t => t.1 = 7) (7, 0) by (try simp only [ndT, tgE, gT, tgR, ndT9, ndW, tg0, Prod.mk.injEq, true_and, and_true, cpyT, msT]); first | done | omega | (simp; done))))) gno0))))
  refine gJ.sub (M' := M4) [1, 0] rfl ?_
  refine gJ.widen (k := ([] : List wtE).length + 2) (n := 6 * ([] : List wtE).length + 40) (by first | omega | (dsimp only; omega)) (by first | omega | (dsimp only; omega)) ?_
  exact loop10 _ 0 ([] : List wtE) (lc + 1) 0 a1 ad_8 M4 (by omega) (by omega) (by simp) hf rfl (Nat.lt_succ_self _) (hF11 _ _ _ (hN3.n hM_0) (gno (hN3.ne hM_0) gno0)) (hF11 _ _ _ (hN3.n hM_1) (gno (hN3.ne hM_1) gno0)) (hF11 _ _ _ (hN3.n hM_2) (gno (hN3.ne hM_2) gno0)) hc9 hZ13 wfs.nil ((gFr.refl.nw hN3).trf hF11 (fun b t e hb hn => (gno (hN3.ne (gFr.refl b t e hb hn)) gno0)))
set_option maxHeartbeats 4000000 in
theorem met_Rd_all_x (l : Launch) (G : gG) (M : gM) (rd : Nat) (xa : Nat) (of : Nat) (sv : Nat) (ms : Nat) (tx : Nat) (lc : Nat) (txf : Nat → Int32) (pf : Nat) (hlc : lc ≤ 120) (htx : ∀ q, 0 ≤ txf q ∧ txf q ≤ 127) (hpf : pf ≤ 135) (hf : fltT (hereT txf lc) lc (lc + 1) 0 = nI pf) (hM_0 : M rd = some ((7, 0), .inr (14, [.int (nI 0), .ref xa]))) (hM_1 : M xa = some ((8, 0), .inr (0, [.ref of, .ref sv, .ref ms, .ref tx, .int (nI lc)]))) (hM_2 : M tx = some ((8, 5), .inl (gcs G 1, 120, .inl txf))) : MetX l yX18_all (ws_ yX18_all cX18_all 2 (some (.object "java/util/ArrayList"))) ({ frames := 8, cells := 30, slots := 400, locals := 167 }) (gPc G [.ref rd] M) G (fun q9 M9 k9 => M9 q9 = some ((7, 1), .inr (15, [.null, .null, .null, .null, .null, .int 0, .int (nI pf)])) ∧ gFr (gT (fun t => t.1 = 7)) M M9 ∧ k9 ≤ 30) 30 400 := by
  refine gMetX [(0, .ref rd)] (by decide) (Nat.le_of_ble_eq_true rfl) rfl ?_
  intro p e s m below meth c hC hTB
  refine g_new hC cI29 q2744 q1896 q167 df29 (7, 3) (Nat.le_of_ble_eq_true rfl) (Nat.le_of_ble_eq_true rfl) 1 (Nat.le_of_ble_eq_true rfl) 3 (Nat.le_of_ble_eq_true rfl) dX18_all_0 3 rfl (fun a1 M2 hN3 => ?_)
  refine g_dup hC dX18_all_3 rfl 4 rfl ?_
  refine g_bipush hC dX18_all_4 kb_20 6 rfl ?_
  refine g_callv (g_I (As := [.int 20]) (rest := [.ref a1]) hC miJ42_init q2745 (met_AL_init l G M2 a1 hN3.2.1) ⟨rfl, rfl⟩ ⟨(Nat.le_of_ble_eq_true rfl), (Nat.le_of_ble_eq_true rfl)⟩ rfl (Nat.le_of_ble_eq_true rfl) dX18_all_6 rfl ⟨(Nat.le_of_ble_eq_true rfl), (Nat.le_of_ble_eq_true rfl)⟩) 2 (Nat.le_of_ble_eq_true rfl) 23 (Nat.le_of_ble_eq_true rfl) 9 rfl (fun M4 k5 hp6 => ?_)
  obtain ⟨ad_8, hc9, hc10, hF11, hk12⟩ := hp6
  refine g_astore_n hC dX18_all_9 rfl gRef_r (Nat.le_of_ble_eq_true rfl) [(1, .ref a1), (0, .ref rd)] rfl 10 rfl ?_
  have hZ13 := hc10
  rw [alA_nil] at hZ13
  have loop10 : ∀ (n9 : Nat) (p1 : Nat) (W : List wtE) (F : Nat) (mz : Int32) (al : Nat) (ad : Nat) (ML : gM), (hp : p1 ≤ lc) → (hF : lc + 1 ≤ F + p1) → (h7 : 7 * W.length ≤ p1) → (hfl : fltT (hereT txf lc) lc F p1 = nI pf) → F < n9 → (ML rd = some ((7, 0), .inr (14, [.int (nI p1), .ref xa]))) → (ML xa = some ((8, 0), .inr (0, [.ref of, .ref sv, .ref ms, .ref tx, .int (nI lc)]))) → (ML tx = some ((8, 5), .inl (gcs G 1, 120, .inl txf))) → (ML al = some ((7, 3), .inr (29, [.int mz, .ref ad, .int (nI W.length)]))) → (ML ad = some ((7, 4), .inl (gcs G 3, 20, .inr (.inr (.inr (.inr (alA W))))))) → (wfs ML W) → gFr (gT (fun t => t.1 = 7)) M ML → gJ p l e ({ frames := 8, cells := 30, slots := 400, locals := 167 } : Room) s m ([.ref rd] : List Value).toArray below meth c G 2 (vz_MQ below gNo (gX G (fun q9 M9 k9 => M9 q9 = some ((7, 1), .inr (15, [.null, .null, .null, .null, .null, .int 0, .int (nI pf)])) ∧ gFr (gT (fun t => t.1 = 7)) M M9 ∧ k9 ≤ 30)) ([.ref rd] : List Value).toArray s 30 400 (gA G)) (W.length + 2) (6 * W.length + 40) ML 10 [(0, .ref rd), (1, .ref al)] [] := by
    intro n9
    induction n9 with
    | zero => intro p1 W F mz al ad ML hp hF h7 hfl hmu; exact absurd hmu (Nat.not_lt_zero _)
    | succ n9 ih =>
      intro p1 W F mz al ad ML hp hF h7 hfl hmu hL_0 hL_1 hL_2 hL_3 hL_4 hLp_0 hLF
      refine g_aload_n hC dX18_all_10 0 rfl gRef_r 11 rfl ?_
      refine g_get (v := .int (nI p1)) hC cI14 hL_0 0 (Nat.le_of_ble_eq_true rfl) q2733 rfl dX18_all_11 14 rfl ?_
      refine g_aload_n hC dX18_all_14 0 rfl gRef_r 15 rfl ?_
      refine g_get (v := .ref xa) hC cI14 hL_0 1 (Nat.le_of_ble_eq_true rfl) q2734 rfl dX18_all_15 18 rfl ?_
      refine g_getN (v := .int (nI lc)) hC cI0 hL_1 4 (Nat.le_of_ble_eq_true rfl) q522 rfl dX18_all_18 21 rfl ?_
      refine g_icmp_ge hC dX18_all_21 42 rfl 24 rfl (fun c_14 => ?_) (fun c_14 => ?_)
      · replace c_14 : lc ≤ p1 := nn_le (by omega) (by omega) c_14
        exact absurd ((fltT_end c_14 F).symm.trans hfl) (fun q9 => absurd (show (-5 : Int32) < 0 by decide) (by rw [q9]; exact nI_pos (by omega)))
      · replace c_14 : p1 < lc := nn_nle (by omega) (by omega) c_14
        have hwle := wqT_le (h := (hereT txf lc)) (q := p1)
        rcases hw9 : (wqT (hereT txf lc) p1).2 with _ | t9
        · skip
          refine g_aload_n hC dX18_all_24 1 rfl gRef_r 25 rfl ?_
          refine g_aload_n hC dX18_all_25 0 rfl gRef_r 26 rfl ?_
          exact g_callX hC hTB (g_VX (As := []) (rest := [.ref al]) hC mvX18_wanted q2762 (gOf.of hC.K cI14 hL_0) (met_Rd_wanted_x l G ML rd xa of sv ms tx lc txf p1 hlc (by first | assumption | decide | omega | (dsimp only; omega) | simp_all) htx (by first | assumption | decide | omega | (dsimp only; omega) | simp_all) hw9 hL_0 hL_1 hL_2) ⟨rfl, rfl⟩ ⟨(Nat.le_of_ble_eq_true rfl), (Nat.le_of_ble_eq_true rfl)⟩ rfl (Nat.le_of_ble_eq_true rfl) dX18_all_26 rfl ⟨(by first | omega | (dsimp only; omega)), (by first | omega | (dsimp only; omega))⟩) (by first | omega | (dsimp only; omega)) (by first | omega | (dsimp only; omega)) (fun q15 M16 k17 k9 hp18 hk9 => by obtain ⟨hc19, hF20, hk21⟩ := hp18; exact ⟨(by rw [hc19, flt_n c_14 hw9 (by omega) hfl]), (hLF.trans (gFr.refl.trans (hF20.mono (fun b t h => by obtain ⟨u9, v9⟩ := t; revert h; (try simp only [ndT, tgE, gT, tgR, ndT9, ndW, tg0, Prod.mk.injEq, true_and, and_true, cpyT, msT]); first | done | omega | (simp; done) | (intro h; simp_all; done))))), (by omega)⟩)
        · skip
          refine g_aload_n hC dX18_all_24 1 rfl gRef_r 25 rfl ?_
          refine g_aload_n hC dX18_all_25 0 rfl gRef_r 26 rfl ?_
          refine g_callq (g_V (As := []) (rest := [.ref al]) hC mvX18_wanted q2762 (gOf.of hC.K cI14 hL_0) (met_Rd_wanted l G ML rd xa of sv ms tx lc txf p1 t9 hlc (by first | assumption | decide | omega | (dsimp only; omega) | simp_all) htx (by first | assumption | decide | omega | (dsimp only; omega) | simp_all) hw9 hL_0 hL_1 hL_2) ⟨rfl, rfl⟩ ⟨(Nat.le_of_ble_eq_true rfl), (Nat.le_of_ble_eq_true rfl)⟩ rfl (Nat.le_of_ble_eq_true rfl) dX18_all_26 rfl ⟨(by first | omega | (dsimp only; omega)), (by first | omega | (dsimp only; omega))⟩) (W.length + 2 + 1) (by first | omega | (dsimp only; omega)) (6 * W.length + 40 + 5) (by first | omega | (dsimp only; omega)) 29 rfl (fun r25 M22 k23 hp24 => ?_)
          obtain ⟨a9_26, rfl, hc27, hc28, hF29, hk30⟩ := hp24
          refine g_calli (g_V (As := [.ref a9_26]) (rest := []) hC mvJ42_add q2854 (gOf.of hC.K cI29 (hF29 _ _ _ hL_3 (gno (gne_c hL_3 hL_0 (by decide)) gno0))) (met_AL_add l G M22 al ad mz W.length (alA W) a9_26 (7, 2) t9.1 t9.2.1 (bI (decide (t9.2.2.1 = 1))) t9.2.2.2.1 t9.2.2.2.2 (by omega) (hF29 _ _ _ hL_3 (gno (gne_c hL_3 hL_0 (by decide)) gno0)) (hF29 _ _ _ hL_4 (gno (gne_ao hL_4 hL_0) gno0)) hc28) ⟨rfl, rfl⟩ ⟨(Nat.le_of_ble_eq_true rfl), (Nat.le_of_ble_eq_true rfl)⟩ rfl (Nat.le_of_ble_eq_true rfl) dX18_all_29 rfl ⟨(by first | omega | (dsimp only; omega)), (by first | omega | (dsimp only; omega))⟩) (W.length + 2 + 1) (by first | omega | (dsimp only; omega)) (6 * W.length + 40 + 5) (by first | omega | (dsimp only; omega)) 32 rfl (fun r34 M31 k32 hp33 => ?_)
          obtain ⟨rfl, hc35, hc36, hF37, hk38⟩ := hp33
          have hZ39 := hc36
          rw [alA_add (x := (a9_26, t9))] at hZ39
          have hZ40 : M31 al = some ((7, 3), .inr (29, [.int (mz + 1), .ref ad, .int (nI ((W ++ [(a9_26, t9)]).length))])) := by rw [hc35, List.length_append]; rfl
          have hZ41 : wfs M31 (W ++ [(a9_26, t9)]) := wfs.add (wfs.fr hLp_0 ((gFr.refl.trf hF29 (fun b t e hb hn => (gno (gne_t (gFr.refl b t e hb hn) hL_0 (fun q => hn (by rw [q]; exact (show (fun t => ¬ (tgE 7 2) t) (7, 0) by (try simp only [ndT, tgE, gT, tgR, ndT9, ndW, tg0, Prod.mk.injEq, true_and, and_true, cpyT, msT]); first | done | omega | (simp; done))))) gno0))).trf hF37 (fun b t e hb hn => (gno (gne_t ((gFr.refl.trf hF29 (fun b t e hb hn => (gno (gne_t (gFr.refl b t e hb hn) hL_0 (fun q => hn (by rw [q]; exact (show (fun t => ¬ (tgE 7 2) t) (7, 0) by (try simp only [ndT, tgE, gT, tgR, ndT9, ndW, tg0, Prod.mk.injEq, true_and, and_true, cpyT, msT]); first | done | omega | (simp; done))))) gno0))) b t e hb hn) (hF29 _ _ _ hL_3 (gno (gne_c hL_3 hL_0 (by decide)) gno0)) (fun q => hn (by rw [q]; exact (show (fun t => ¬ (tgE 7 2) t) (7, 3) by (try simp only [ndT, tgE, gT, tgR, ndT9, ndW, tg0, Prod.mk.injEq, true_and, and_true, cpyT, msT]); first | done | omega | (simp; done))))) (gno (gne_t ((gFr.refl.trf hF29 (fun b t e hb hn => (gno (gne_t (gFr.refl b t e hb hn) hL_0 (fun q => hn (by rw [q]; exact (show (fun t => ¬ (tgE 7 2) t) (7, 0) by (try simp only [ndT, tgE, gT, tgR, ndT9, ndW, tg0, Prod.mk.injEq, true_and, and_true, cpyT, msT]); first | done | omega | (simp; done))))) gno0))) b t e hb hn) (hF29 _ _ _ hL_4 (gno (gne_ao hL_4 hL_0) gno0)) (fun q => hn (by rw [q]; exact (show (fun t => ¬ (tgE 7 2) t) (7, 4) by (try simp only [ndT, tgE, gT, tgR, ndT9, ndW, tg0, Prod.mk.injEq, true_and, and_true, cpyT, msT]); first | done | omega | (simp; done))))) gno0))))) (hF37 _ _ _ hc28 (gno (gne_c hc28 (hF29 _ _ _ hL_3 (gno (gne_c hL_3 hL_0 (by decide)) gno0)) (by decide)) (gno (gne_oa hc28 (hF29 _ _ _ hL_4 (gno (gne_ao hL_4 hL_0) gno0))) gno0)))
          refine g_pop hC dX18_all_32 rfl 33 rfl ?_
          by_cases h59 : hereT txf lc (wqT (hereT txf lc) p1).1 = 59
          · have he9 := rqT_e hw9 h59
            have ht9 := congrArg Prod.snd he9
            have h79 := rq_7 ht9
            have hi9 : (rqT (hereT txf lc) p1).2.isSome = true := by rw [ht9]; rfl
            have hin9 := rqT_in hi9
            have hwl := congrArg Prod.fst he9
            replace hwl : (rqT (hereT txf lc) p1).1 = (wqT (hereT txf lc) p1).1 + 1 := hwl
            have hf9 : fltT (hereT txf lc) lc (F - 1) (rqT (hereT txf lc) p1).1 = nI pf := (fltT_go (by omega) hi9 (by omega)).trans hfl
            refine g_aload_n hC dX18_all_33 0 rfl gRef_r 34 rfl ?_
            refine g_bipush hC dX18_all_34 kb_59 36 rfl ?_
            refine g_callv (g_V (As := [.int 59]) (rest := []) hC mvX18_sign q2804 (gOf.of hC.K cI14 (hF37 _ _ _ hc27 (gno (gne_c hc27 (hF29 _ _ _ hL_3 (gno (gne_c hL_3 hL_0 (by decide)) gno0)) (by decide)) (gno (gne_oa hc27 (hF29 _ _ _ hL_4 (gno (gne_ao hL_4 hL_0) gno0))) gno0)))) (met_Rd_sign l G M31 rd xa of sv ms tx lc txf ((wqT (hereT txf lc) p1).1) 59 hlc (by first | assumption | decide | omega | (dsimp only; omega) | simp_all) htx (by first | assumption | decide | omega | (dsimp only; omega) | simp_all) h59 (hF37 _ _ _ hc27 (gno (gne_c hc27 (hF29 _ _ _ hL_3 (gno (gne_c hL_3 hL_0 (by decide)) gno0)) (by decide)) (gno (gne_oa hc27 (hF29 _ _ _ hL_4 (gno (gne_ao hL_4 hL_0) gno0))) gno0))) (hF37 _ _ _ (hF29 _ _ _ hL_1 (gno (gne_c hL_1 hL_0 (by decide)) gno0)) (gno (gne_c (hF29 _ _ _ hL_1 (gno (gne_c hL_1 hL_0 (by decide)) gno0)) (hF29 _ _ _ hL_3 (gno (gne_c hL_3 hL_0 (by decide)) gno0)) (by decide)) (gno (gne_oa (hF29 _ _ _ hL_1 (gno (gne_c hL_1 hL_0 (by decide)) gno0)) (hF29 _ _ _ hL_4 (gno (gne_ao hL_4 hL_0) gno0))) gno0))) (hF37 _ _ _ (hF29 _ _ _ hL_2 (gno (gne_ao hL_2 hL_0) gno0)) (gno (gne_ao (hF29 _ _ _ hL_2 (gno (gne_ao hL_2 hL_0) gno0)) (hF29 _ _ _ hL_3 (gno (gne_c hL_3 hL_0 (by decide)) gno0))) (gno (gne_t (hF29 _ _ _ hL_2 (gno (gne_ao hL_2 hL_0) gno0)) (hF29 _ _ _ hL_4 (gno (gne_ao hL_4 hL_0) gno0)) (by first | assumption | decide | (intro h; simp only [Prod.mk.injEq] at h; omega) | simp | (intro h; simp at h))) gno0)))) ⟨rfl, rfl⟩ ⟨(Nat.le_of_ble_eq_true rfl), (Nat.le_of_ble_eq_true rfl)⟩ rfl (Nat.le_of_ble_eq_true rfl) dX18_all_36 rfl ⟨(by first | omega | (dsimp only; omega)), (by first | omega | (dsimp only; omega))⟩) (W.length + 2 + 1) (by first | omega | (dsimp only; omega)) (6 * W.length + 40 + 5) (by first | omega | (dsimp only; omega)) 39 rfl (fun M42 k43 hp44 => ?_)
            obtain ⟨hc46, hF47, hk48⟩ := hp44
            have hH49 := (hF47 _ _ _ hZ40 (gno (gne_c hZ40 (hF37 _ _ _ hc27 (gno (gne_c hc27 (hF29 _ _ _ hL_3 (gno (gne_c hL_3 hL_0 (by decide)) gno0)) (by decide)) (gno (gne_oa hc27 (hF29 _ _ _ hL_4 (gno (gne_ao hL_4 hL_0) gno0))) gno0))) (by decide)) gno0))
            have hH50 := (hF47 _ _ _ hZ39 (gno (gne_ao hZ39 (hF37 _ _ _ hc27 (gno (gne_c hc27 (hF29 _ _ _ hL_3 (gno (gne_c hL_3 hL_0 (by decide)) gno0)) (by decide)) (gno (gne_oa hc27 (hF29 _ _ _ hL_4 (gno (gne_ao hL_4 hL_0) gno0))) gno0)))) gno0))
            have hH51 := (hF47 _ _ _ (hF37 _ _ _ hc28 (gno (gne_c hc28 (hF29 _ _ _ hL_3 (gno (gne_c hL_3 hL_0 (by decide)) gno0)) (by decide)) (gno (gne_oa hc28 (hF29 _ _ _ hL_4 (gno (gne_ao hL_4 hL_0) gno0))) gno0))) (gno (gne_c (hF37 _ _ _ hc28 (gno (gne_c hc28 (hF29 _ _ _ hL_3 (gno (gne_c hL_3 hL_0 (by decide)) gno0)) (by decide)) (gno (gne_oa hc28 (hF29 _ _ _ hL_4 (gno (gne_ao hL_4 hL_0) gno0))) gno0))) (hF37 _ _ _ hc27 (gno (gne_c hc27 (hF29 _ _ _ hL_3 (gno (gne_c hL_3 hL_0 (by decide)) gno0)) (by decide)) (gno (gne_oa hc27 (hF29 _ _ _ hL_4 (gno (gne_ao hL_4 hL_0) gno0))) gno0))) (by decide)) gno0))
            have hH52 := (hF47 _ _ _ (hF37 _ _ _ (hF29 _ _ _ hL_1 (gno (gne_c hL_1 hL_0 (by decide)) gno0)) (gno (gne_c (hF29 _ _ _ hL_1 (gno (gne_c hL_1 hL_0 (by decide)) gno0)) (hF29 _ _ _ hL_3 (gno (gne_c hL_3 hL_0 (by decide)) gno0)) (by decide)) (gno (gne_oa (hF29 _ _ _ hL_1 (gno (gne_c hL_1 hL_0 (by decide)) gno0)) (hF29 _ _ _ hL_4 (gno (gne_ao hL_4 hL_0) gno0))) gno0))) (gno (gne_c (hF37 _ _ _ (hF29 _ _ _ hL_1 (gno (gne_c hL_1 hL_0 (by decide)) gno0)) (gno (gne_c (hF29 _ _ _ hL_1 (gno (gne_c hL_1 hL_0 (by decide)) gno0)) (hF29 _ _ _ hL_3 (gno (gne_c hL_3 hL_0 (by decide)) gno0)) (by decide)) (gno (gne_oa (hF29 _ _ _ hL_1 (gno (gne_c hL_1 hL_0 (by decide)) gno0)) (hF29 _ _ _ hL_4 (gno (gne_ao hL_4 hL_0) gno0))) gno0))) (hF37 _ _ _ hc27 (gno (gne_c hc27 (hF29 _ _ _ hL_3 (gno (gne_c hL_3 hL_0 (by decide)) gno0)) (by decide)) (gno (gne_oa hc27 (hF29 _ _ _ hL_4 (gno (gne_ao hL_4 hL_0) gno0))) gno0))) (by decide)) gno0))
            have hH53 := (hF47 _ _ _ (hF37 _ _ _ (hF29 _ _ _ hL_2 (gno (gne_ao hL_2 hL_0) gno0)) (gno (gne_ao (hF29 _ _ _ hL_2 (gno (gne_ao hL_2 hL_0) gno0)) (hF29 _ _ _ hL_3 (gno (gne_c hL_3 hL_0 (by decide)) gno0))) (gno (gne_t (hF29 _ _ _ hL_2 (gno (gne_ao hL_2 hL_0) gno0)) (hF29 _ _ _ hL_4 (gno (gne_ao hL_4 hL_0) gno0)) (by first | assumption | decide | (intro h; simp only [Prod.mk.injEq] at h; omega) | simp | (intro h; simp at h))) gno0))) (gno (gne_ao (hF37 _ _ _ (hF29 _ _ _ hL_2 (gno (gne_ao hL_2 hL_0) gno0)) (gno (gne_ao (hF29 _ _ _ hL_2 (gno (gne_ao hL_2 hL_0) gno0)) (hF29 _ _ _ hL_3 (gno (gne_c hL_3 hL_0 (by decide)) gno0))) (gno (gne_t (hF29 _ _ _ hL_2 (gno (gne_ao hL_2 hL_0) gno0)) (hF29 _ _ _ hL_4 (gno (gne_ao hL_4 hL_0) gno0)) (by first | assumption | decide | (intro h; simp only [Prod.mk.injEq] at h; omega) | simp | (intro h; simp at h))) gno0))) (hF37 _ _ _ hc27 (gno (gne_c hc27 (hF29 _ _ _ hL_3 (gno (gne_c hL_3 hL_0 (by decide)) gno0)) (by decide)) (gno (gne_oa hc27 (hF29 _ _ _ hL_4 (gno (gne_ao hL_4 hL_0) gno0))) gno0)))) gno0))
            have hH54 : wfs M42 (W ++ [(a9_26, t9)]) := (wfs.fr hZ41 (gFr.refl.trf hF47 (fun b t e hb hn => (gno (gne_t (gFr.refl b t e hb hn) (hF37 _ _ _ hc27 (gno (gne_c hc27 (hF29 _ _ _ hL_3 (gno (gne_c hL_3 hL_0 (by decide)) gno0)) (by decide)) (gno (gne_oa hc27 (hF29 _ _ _ hL_4 (gno (gne_ao hL_4 hL_0) gno0))) gno0))) (fun q => hn (by rw [q]; exact (show (fun t => ¬ (tgE 7 2) t) (7, 0) by (try simp only [ndT, tgE, gT, tgR, ndT9, ndW, tg0, Prod.mk.injEq, true_and, and_true, cpyT, msT]); first | done | omega | (simp; done))))) gno0))))
            refine g_goto hC dX18_all_39 10 rfl ?_
            refine gJ.widen (k := (W ++ [(a9_26, t9)]).length + 2) (n := 6 * (W ++ [(a9_26, t9)]).length + 40) (by first | omega | (dsimp only; omega)) (by first | omega | (dsimp only; omega)) ?_
            exact ih ((wqT (hereT txf lc) p1).1 + 1) (W ++ [(a9_26, t9)]) (F - 1) (mz + 1) al ad M42 (by omega) (by omega) (by rw [List.length_append]; simp only [List.length_singleton]; omega) (by rw [← hwl]; exact hf9) (by omega) hc46 hH52 hH53 hH49 hH50 hH54 (hLF.trans (((gFr.refl.trf hF29 (fun b t e hb hn => (gno (gne_t (gFr.refl b t e hb hn) hL_0 (fun q => hn (by rw [q]; exact (show (fun t => t.1 = 7) (7, 0) by (try simp only [ndT, tgE, gT, tgR, ndT9, ndW, tg0, Prod.mk.injEq, true_and, and_true, cpyT, msT]); first | done | omega | (simp; done))))) gno0))).trf hF37 (fun b t e hb hn => (gno (gne_t ((gFr.refl.trf hF29 (fun b t e hb hn => (gno (gne_t (gFr.refl b t e hb hn) hL_0 (fun q => hn (by rw [q]; exact (show (fun t => t.1 = 7) (7, 0) by (try simp only [ndT, tgE, gT, tgR, ndT9, ndW, tg0, Prod.mk.injEq, true_and, and_true, cpyT, msT]); first | done | omega | (simp; done))))) gno0))) b t e hb hn) (hF29 _ _ _ hL_3 (gno (gne_c hL_3 hL_0 (by decide)) gno0)) (fun q => hn (by rw [q]; exact (show (fun t => t.1 = 7) (7, 3) by (try simp only [ndT, tgE, gT, tgR, ndT9, ndW, tg0, Prod.mk.injEq, true_and, and_true, cpyT, msT]); first | done | omega | (simp; done))))) (gno (gne_t ((gFr.refl.trf hF29 (fun b t e hb hn => (gno (gne_t (gFr.refl b t e hb hn) hL_0 (fun q => hn (by rw [q]; exact (show (fun t => t.1 = 7) (7, 0) by (try simp only [ndT, tgE, gT, tgR, ndT9, ndW, tg0, Prod.mk.injEq, true_and, and_true, cpyT, msT]); first | done | omega | (simp; done))))) gno0))) b t e hb hn) (hF29 _ _ _ hL_4 (gno (gne_ao hL_4 hL_0) gno0)) (fun q => hn (by rw [q]; exact (show (fun t => t.1 = 7) (7, 4) by (try simp only [ndT, tgE, gT, tgR, ndT9, ndW, tg0, Prod.mk.injEq, true_and, and_true, cpyT, msT]); first | done | omega | (simp; done))))) gno0)))).trf hF47 (fun b t e hb hn => (gno (gne_t (((gFr.refl.trf hF29 (fun b t e hb hn => (gno (gne_t (gFr.refl b t e hb hn) hL_0 (fun q => hn (by rw [q]; exact (show (fun t => t.1 = 7) (7, 0) by (try simp only [ndT, tgE, gT, tgR, ndT9, ndW, tg0, Prod.mk.injEq, true_and, and_true, cpyT, msT]); first | done | omega | (simp; done))))) gno0))).trf hF37 (fun b t e hb hn => (gno (gne_t ((gFr.refl.trf hF29 (fun b t e hb hn => (gno (gne_t (gFr.refl b t e hb hn) hL_0 (fun q => hn (by rw [q]; exact (show (fun t => t.1 = 7) (7, 0) by (try simp only [ndT, tgE, gT, tgR, ndT9, ndW, tg0, Prod.mk.injEq, true_and, and_true, cpyT, msT]); first | done | omega | (simp; done))))) gno0))) b t e hb hn) (hF29 _ _ _ hL_3 (gno (gne_c hL_3 hL_0 (by decide)) gno0)) (fun q => hn (by rw [q]; exact (show (fun t => t.1 = 7) (7, 3) by (try simp only [ndT, tgE, gT, tgR, ndT9, ndW, tg0, Prod.mk.injEq, true_and, and_true, cpyT, msT]); first | done | omega | (simp; done))))) (gno (gne_t ((gFr.refl.trf hF29 (fun b t e hb hn => (gno (gne_t (gFr.refl b t e hb hn) hL_0 (fun q => hn (by rw [q]; exact (show (fun t => t.1 = 7) (7, 0) by (try simp only [ndT, tgE, gT, tgR, ndT9, ndW, tg0, Prod.mk.injEq, true_and, and_true, cpyT, msT]); first | done | omega | (simp; done))))) gno0))) b t e hb hn) (hF29 _ _ _ hL_4 (gno (gne_ao hL_4 hL_0) gno0)) (fun q => hn (by rw [q]; exact (show (fun t => t.1 = 7) (7, 4) by (try simp only [ndT, tgE, gT, tgR, ndT9, ndW, tg0, Prod.mk.injEq, true_and, and_true, cpyT, msT]); first | done | omega | (simp; done))))) gno0)))) b t e hb hn) (hF37 _ _ _ hc27 (gno (gne_c hc27 (hF29 _ _ _ hL_3 (gno (gne_c hL_3 hL_0 (by decide)) gno0)) (by decide)) (gno (gne_oa hc27 (hF29 _ _ _ hL_4 (gno (gne_ao hL_4 hL_0) gno0))) gno0))) (fun q => hn (by rw [q]; exact (show (fun t => t.1 = 7) (7, 0) by (try simp only [ndT, tgE, gT, tgR, ndT9, ndW, tg0, Prod.mk.injEq, true_and, and_true, cpyT, msT]); first | done | omega | (simp; done))))) gno0))))
          · skip
            refine g_aload_n hC dX18_all_33 0 rfl gRef_r 34 rfl ?_
            refine g_bipush hC dX18_all_34 kb_59 36 rfl ?_
            exact g_callX hC hTB (g_VX (As := [.int 59]) (rest := []) hC mvX18_sign q2804 (gOf.of hC.K cI14 (hF37 _ _ _ hc27 (gno (gne_c hc27 (hF29 _ _ _ hL_3 (gno (gne_c hL_3 hL_0 (by decide)) gno0)) (by decide)) (gno (gne_oa hc27 (hF29 _ _ _ hL_4 (gno (gne_ao hL_4 hL_0) gno0))) gno0)))) (met_Rd_sign_x l G M31 rd xa of sv ms tx lc txf ((wqT (hereT txf lc) p1).1) 59 hlc (by first | assumption | decide | omega | (dsimp only; omega) | simp_all) htx (by first | assumption | decide | omega | (dsimp only; omega) | simp_all) h59 (hF37 _ _ _ hc27 (gno (gne_c hc27 (hF29 _ _ _ hL_3 (gno (gne_c hL_3 hL_0 (by decide)) gno0)) (by decide)) (gno (gne_oa hc27 (hF29 _ _ _ hL_4 (gno (gne_ao hL_4 hL_0) gno0))) gno0))) (hF37 _ _ _ (hF29 _ _ _ hL_1 (gno (gne_c hL_1 hL_0 (by decide)) gno0)) (gno (gne_c (hF29 _ _ _ hL_1 (gno (gne_c hL_1 hL_0 (by decide)) gno0)) (hF29 _ _ _ hL_3 (gno (gne_c hL_3 hL_0 (by decide)) gno0)) (by decide)) (gno (gne_oa (hF29 _ _ _ hL_1 (gno (gne_c hL_1 hL_0 (by decide)) gno0)) (hF29 _ _ _ hL_4 (gno (gne_ao hL_4 hL_0) gno0))) gno0))) (hF37 _ _ _ (hF29 _ _ _ hL_2 (gno (gne_ao hL_2 hL_0) gno0)) (gno (gne_ao (hF29 _ _ _ hL_2 (gno (gne_ao hL_2 hL_0) gno0)) (hF29 _ _ _ hL_3 (gno (gne_c hL_3 hL_0 (by decide)) gno0))) (gno (gne_t (hF29 _ _ _ hL_2 (gno (gne_ao hL_2 hL_0) gno0)) (hF29 _ _ _ hL_4 (gno (gne_ao hL_4 hL_0) gno0)) (by first | assumption | decide | (intro h; simp only [Prod.mk.injEq] at h; omega) | simp | (intro h; simp at h))) gno0)))) ⟨rfl, rfl⟩ ⟨(Nat.le_of_ble_eq_true rfl), (Nat.le_of_ble_eq_true rfl)⟩ rfl (Nat.le_of_ble_eq_true rfl) dX18_all_36 rfl ⟨(by first | omega | (dsimp only; omega)), (by first | omega | (dsimp only; omega))⟩) (by first | omega | (dsimp only; omega)) (by first | omega | (dsimp only; omega)) (fun q55 M56 k57 k9 hp58 hk9 => by obtain ⟨hc59, hF60, hk61⟩ := hp58; exact ⟨(by rw [hc59, flt_ne c_14 hw9 h59 (by omega) hfl]), (hLF.trans (((gFr.refl.trf hF29 (fun b t e hb hn => (gno (gne_t (gFr.refl b t e hb hn) hL_0 (fun q => hn (by rw [q]; exact (show (fun t => t.1 = 7) (7, 0) by (try simp only [ndT, tgE, gT, tgR, ndT9, ndW, tg0, Prod.mk.injEq, true_and, and_true, cpyT, msT]); first | done | omega | (simp; done))))) gno0))).trf hF37 (fun b t e hb hn => (gno (gne_t ((gFr.refl.trf hF29 (fun b t e hb hn => (gno (gne_t (gFr.refl b t e hb hn) hL_0 (fun q => hn (by rw [q]; exact (show (fun t => t.1 = 7) (7, 0) by (try simp only [ndT, tgE, gT, tgR, ndT9, ndW, tg0, Prod.mk.injEq, true_and, and_true, cpyT, msT]); first | done | omega | (simp; done))))) gno0))) b t e hb hn) (hF29 _ _ _ hL_3 (gno (gne_c hL_3 hL_0 (by decide)) gno0)) (fun q => hn (by rw [q]; exact (show (fun t => t.1 = 7) (7, 3) by (try simp only [ndT, tgE, gT, tgR, ndT9, ndW, tg0, Prod.mk.injEq, true_and, and_true, cpyT, msT]); first | done | omega | (simp; done))))) (gno (gne_t ((gFr.refl.trf hF29 (fun b t e hb hn => (gno (gne_t (gFr.refl b t e hb hn) hL_0 (fun q => hn (by rw [q]; exact (show (fun t => t.1 = 7) (7, 0) by (try simp only [ndT, tgE, gT, tgR, ndT9, ndW, tg0, Prod.mk.injEq, true_and, and_true, cpyT, msT]); first | done | omega | (simp; done))))) gno0))) b t e hb hn) (hF29 _ _ _ hL_4 (gno (gne_ao hL_4 hL_0) gno0)) (fun q => hn (by rw [q]; exact (show (fun t => t.1 = 7) (7, 4) by (try simp only [ndT, tgE, gT, tgR, ndT9, ndW, tg0, Prod.mk.injEq, true_and, and_true, cpyT, msT]); first | done | omega | (simp; done))))) gno0)))).trans (hF60.mono (fun b t h => by obtain ⟨u9, v9⟩ := t; revert h; (try simp only [ndT, tgE, gT, tgR, ndT9, ndW, tg0, Prod.mk.injEq, true_and, and_true, cpyT, msT]); first | done | omega | (simp; done) | (intro h; simp_all; done))))), (by omega)⟩)
  refine gJ.sub (M' := M4) [1, 0] rfl ?_
  refine gJ.widen (k := ([] : List wtE).length + 2) (n := 6 * ([] : List wtE).length + 40) (by first | omega | (dsimp only; omega)) (by first | omega | (dsimp only; omega)) ?_
  exact loop10 _ 0 ([] : List wtE) (lc + 1) 0 a1 ad_8 M4 (by omega) (by omega) (by simp) hf (Nat.lt_succ_self _) (hF11 _ _ _ (hN3.n hM_0) (gno (hN3.ne hM_0) gno0)) (hF11 _ _ _ (hN3.n hM_1) (gno (hN3.ne hM_1) gno0)) (hF11 _ _ _ (hN3.n hM_2) (gno (hN3.ne hM_2) gno0)) hc9 hZ13 wfs.nil ((gFr.refl.nw hN3).trf hF11 (fun b t e hb hn => (gno (hN3.ne (gFr.refl b t e hb hn)) gno0)))
