/-! the public methods: checksum -/
set_option maxRecDepth 100000
def chL (f : Nat → Int32) (h : Int64) : Nat → Int64
  | 0 => h
  | i + 1 => chS f i (chL f h i)
set_option maxHeartbeats 4000000 in
theorem met_X_checksum (l : Launch) (G : gG) (M : gM) (xa : Nat) (sv : Nat) (ms : Nat) (tx : Nat) (le : Int32) (ta : Nat) (of : Nat) (f : Nat → Int32) (q : Nat) (tm : Nat) (hta : 2 ≤ ta ∧ ta < 9) (hq : q < 1000000) (htm : f 1024 = nI tm) (htm9 : tm < 1000000) (hM_0 : M xa = some ((8, 0), .inr (0, [.ref of, .ref sv, .ref ms, .ref tx, .int le]))) (hP_0 : busR M G ta of f q) : Met l yX0_checksum (ws_ yX0_checksum cX0_checksum 4 (some .long)) ({ frames := 10, cells := 60, slots := 1200, locals := 259 }) (gPc G [.ref xa] M) (gQl G (fun r9 M9 k9 => r9 = (chB f tm (chS f 3 (chS f 2 (chS f 1 (chS f 0 (31 * 11 + (nI tm).toInt64))))) 32) ∧ busR M9 G ta of f q ∧ gFr (gT (tgR 9 0 8)) M M9 ∧ k9 ≤ 56)) 60 1200 (gA G) := by
  refine gMet [(0, .ref xa)] (by decide) (Nat.le_of_ble_eq_true rfl) rfl ?_
  intro p e s m below meth c hC
  obtain ⟨bn_z1, bd_z1, bh_z1, tn_z1, pl_z1, ol_z1, rv_z1, hs_z1, b0_z1, b3_z1, ht_z1, hq_z1, hl_z1, hh_z1⟩ := busR.hist hP_0
  have e_z1 : tn_z1 = tm := nn_eq (by omega) (by omega) (ht_z1.symm.trans htm)
  rw [e_z1] at b0_z1
  have hok := (busR.ok hP_0 hq).1
  refine g_ldc2 hC q2909 dX0_checksum_0 3 rfl ?_
  refine g_aload_n hC dX0_checksum_3 0 rfl gRef_r 4 rfl ?_
  refine g_get (v := .ref of) hC cI0 hM_0 0 (Nat.le_of_ble_eq_true rfl) q517 rfl dX0_checksum_4 7 rfl ?_
  refine g_getN (v := .int (nI tm)) hC cI1 b0_z1 3 (Nat.le_of_ble_eq_true rfl) q476 rfl dX0_checksum_7 10 rfl ?_
  refine g_i2l hC dX0_checksum_10 11 rfl ?_
  refine g_calllP (g_S (As := [.long 11, .long (Int32.toInt64 (nI tm))]) (rest := []) hC msX0_mix q2910 (met_X_mix l G M 11 (Int32.toInt64 (nI tm))) ⟨rfl, rfl⟩ ⟨(Nat.le_of_ble_eq_true rfl), (Nat.le_of_ble_eq_true rfl)⟩ rfl (Nat.le_of_ble_eq_true rfl) dX0_checksum_11 rfl ⟨(Nat.le_of_ble_eq_true rfl), (Nat.le_of_ble_eq_true rfl)⟩) 14 rfl 0 (Nat.le_of_ble_eq_true rfl) ?_
  refine g_lstore_n hC dX0_checksum_14 rfl (Nat.le_of_ble_eq_true rfl) [(1, .long (31 * 11 + (Int32.toInt64 (nI tm)))), (0, .ref xa)] rfl 15 rfl ?_
  refine g_iconst hC dX0_checksum_15 ki_0 16 rfl ?_
  refine g_istore_n hC dX0_checksum_16 rfl (Nat.le_of_ble_eq_true rfl) [(3, .int 0), (1, .long (31 * 11 + (Int32.toInt64 (nI tm)))), (0, .ref xa)] rfl 17 rfl ?_
  have loop17 : ∀ (n9 : Nat) (i : Nat) (mm : Int64) (ML : gM), (hi : i ≤ 4) → (hm : mm = chL f (31 * 11 + (nI tm).toInt64) i) → 4 - i < n9 → (ML xa = some ((8, 0), .inr (0, [.ref of, .ref sv, .ref ms, .ref tx, .int le]))) → (busR ML G ta of f q) → gFr (gT (tgR 9 0 8)) M ML → gJ p l e ({ frames := 10, cells := 60, slots := 1200, locals := 259 } : Room) s m ([.ref xa] : List Value).toArray below meth c G 4 (MQ below (gQl G (fun r9 M9 k9 => r9 = (chB f tm (chS f 3 (chS f 2 (chS f 1 (chS f 0 (31 * 11 + (nI tm).toInt64))))) 32) ∧ busR M9 G ta of f q ∧ gFr (gT (tgR 9 0 8)) M M9 ∧ k9 ≤ 56)) ([.ref xa] : List Value).toArray s 60 1200 (gA G)) (14 * i) (280 * i) ML 17 [(0, .ref xa), (1, .long mm), (3, .int (nI i))] [] := by
    intro n9
    induction n9 with
    | zero => intro i mm ML hi hm hmu; exact absurd hmu (Nat.not_lt_zero _)
    | succ n9 ih =>
      intro i mm ML hi hm hmu hL_0 hLp_0 hLF
      refine g_iload_n hC dX0_checksum_17 2 rfl 18 rfl ?_
      refine g_iconst hC dX0_checksum_18 ki_4 19 rfl ?_
      refine g_icmp_ge hC dX0_checksum_19 35 rfl 22 rfl (fun c_2 => ?_) (fun c_2 => ?_)
      · replace c_2 : 4 ≤ i := nn_le (by omega) (by omega) c_2
        refine g_iconst hC dX0_checksum_35 ki_1 36 rfl ?_
        refine g_istore_n hC dX0_checksum_36 rfl (Nat.le_of_ble_eq_true rfl) [(3, .int 1), (0, .ref xa), (1, .long mm)] rfl 37 rfl ?_
        have loop37 : ∀ (n9 : Nat) (b : Nat) (j : Nat) (m2 : Int64) (ML : gM), (hj : j = b + 1) → (hb : b ≤ 32) → (hm2 : m2 = chB f tm (chL f (31 * 11 + (nI tm).toInt64) 4) b) → 32 - b < n9 → (ML xa = some ((8, 0), .inr (0, [.ref of, .ref sv, .ref ms, .ref tx, .int le]))) → (busR ML G ta of f q) → gFr (gT (tgR 9 0 8)) M ML → gJ p l e ({ frames := 10, cells := 60, slots := 1200, locals := 259 } : Room) s m ([.ref xa] : List Value).toArray below meth c G 4 (MQ below (gQl G (fun r9 M9 k9 => r9 = (chB f tm (chS f 3 (chS f 2 (chS f 1 (chS f 0 (31 * 11 + (nI tm).toInt64))))) 32) ∧ busR M9 G ta of f q ∧ gFr (gT (tgR 9 0 8)) M M9 ∧ k9 ≤ 56)) ([.ref xa] : List Value).toArray s 60 1200 (gA G)) (14 * 4) (280 * 4) ML 37 [(0, .ref xa), (1, .long m2), (3, .int (nI j))] [] := by
          intro n9
          induction n9 with
          | zero => intro b j m2 ML hj hb hm2 hmu; exact absurd hmu (Nat.not_lt_zero _)
          | succ n9 ih37 =>
            intro b j m2 ML hj hb hm2 hmu hL_0 hLp_0 hLF
            refine g_iload_n hC dX0_checksum_37 2 rfl 38 rfl ?_
            refine g_bipush hC dX0_checksum_38 kb_32 40 rfl ?_
            refine g_icmp_gt hC dX0_checksum_40 60 rfl 43 rfl (fun c_3 => ?_) (fun c_3 => ?_)
            · replace c_3 : 32 < j := nn_lt (by omega) (by omega) c_3
              refine g_lload_n hC dX0_checksum_60 1 rfl 61 rfl ?_
              exact g_lret (v := m2) hC (fun k9 hk9 => ⟨(by rw [hm2, show b = 32 by omega]; rfl), hLp_0, hLF, (by first | exact Nat.le_zero.mp hk9 | omega)⟩) dX0_checksum_61 (by first | omega | (dsimp only; omega)) (by first | omega | (dsimp only; omega))
            · replace c_3 : j ≤ 32 := nn_nlt (by omega) (by omega) c_3
              refine g_lload_n hC dX0_checksum_43 1 rfl 44 rfl ?_
              refine g_aload_n hC dX0_checksum_44 0 rfl gRef_r 45 rfl ?_
              refine g_iload_n hC dX0_checksum_45 2 rfl 46 rfl ?_
              refine g_calliP (g_V (As := [.int (nI j)]) (rest := [.long m2]) hC mvX0_level q2932 (gOf.of hC.K cI0 hL_0) (met_X_level l G ML xa sv ms tx le ta of f q j tm hta (by first | assumption | decide | omega | (dsimp only; omega) | simp_all) (by first | assumption | decide | omega | (dsimp only; omega) | simp_all) hq htm htm9 hL_0 hLp_0) ⟨rfl, rfl⟩ ⟨(Nat.le_of_ble_eq_true rfl), (Nat.le_of_ble_eq_true rfl)⟩ rfl (Nat.le_of_ble_eq_true rfl) dX0_checksum_46 rfl ⟨(by first | omega | (dsimp only; omega)), (by first | omega | (dsimp only; omega))⟩) 49 rfl (280 * 4) (by first | omega | (dsimp only; omega)) ?_
              refine g_i2l hC dX0_checksum_49 50 rfl ?_
              refine g_calllP (g_S (As := [.long m2, .long (Int32.toInt64 (T_lev f tm j))]) (rest := []) hC msX0_mix q2910 (met_X_mix l G ML m2 (Int32.toInt64 (T_lev f tm j))) ⟨rfl, rfl⟩ ⟨(Nat.le_of_ble_eq_true rfl), (Nat.le_of_ble_eq_true rfl)⟩ rfl (Nat.le_of_ble_eq_true rfl) dX0_checksum_50 rfl ⟨(by first | omega | (dsimp only; omega)), (by first | omega | (dsimp only; omega))⟩) 53 rfl (280 * 4) (by first | omega | (dsimp only; omega)) ?_
              refine g_lstore_n hC dX0_checksum_53 rfl (Nat.le_of_ble_eq_true rfl) [(1, .long (31 * m2 + (Int32.toInt64 (T_lev f tm j)))), (0, .ref xa), (3, .int (nI j))] rfl 54 rfl ?_
              refine g_iinc hC dX0_checksum_54 2 rfl (v := nI (j + 1)) (by rw [ki_1]; exact nI_a (a := j) (b := 1) (c := (j + 1)) (by omega)) (Nat.le_of_ble_eq_true rfl) [(3, .int (nI (j + 1))), (1, .long (31 * m2 + (Int32.toInt64 (T_lev f tm j)))), (0, .ref xa)] rfl 57 rfl ?_
              refine g_goto hC dX0_checksum_57 37 rfl ?_
              refine gJ.sub (M' := ML) [2, 1, 0] rfl ?_
              refine gJ.widen (k := 14 * 4) (n := 280 * 4) (by first | omega | (dsimp only; omega)) (by first | omega | (dsimp only; omega)) ?_
              exact ih37 (b + 1) (j + 1) (31 * m2 + (Int32.toInt64 (T_lev f tm j))) ML (by omega) (by omega) (by rw [hm2]; subst hj; rfl) (by omega) hL_0 hLp_0 hLF
        refine gJ.sub (M' := ML) [1, 2, 0] rfl ?_
        refine gJ.widen (k := 14 * 4) (n := 280 * 4) (by first | omega | (dsimp only; omega)) (by first | omega | (dsimp only; omega)) ?_
        exact loop37 _ 0 1 mm ML rfl (by omega) (by rw [hm, show i = 4 by omega]; rfl) (Nat.lt_succ_self _) hL_0 hLp_0 hLF
      · replace c_2 : i < 4 := nn_nle (by omega) (by omega) c_2
        refine g_aload_n hC dX0_checksum_22 0 rfl gRef_r 23 rfl ?_
        refine g_lload_n hC dX0_checksum_23 1 rfl 24 rfl ?_
        refine g_iload_n hC dX0_checksum_24 2 rfl 25 rfl ?_
        refine g_calll (g_V (As := [.long mm, .int (nI i)]) (rest := []) hC mvX0_mixNode q2914 (gOf.of hC.K cI0 hL_0) (met_X_mixNode l G ML xa sv ms tx le ta of f q i mm (nNw f i) (nNr f i) hta c_2 (hok i (by omega)).2.2.2.2.2.1.1 (hok i (by omega)).2.2.2.2.2.1.2 (hok i (by omega)).2.2.2.2.2.2.1.1 (hok i (by omega)).2.2.2.2.2.2.1.2 hL_0 hLp_0) ⟨rfl, rfl⟩ ⟨(Nat.le_of_ble_eq_true rfl), (Nat.le_of_ble_eq_true rfl)⟩ rfl (Nat.le_of_ble_eq_true rfl) dX0_checksum_25 rfl ⟨(by first | omega | (dsimp only; omega)), (by first | omega | (dsimp only; omega))⟩) (14 * i + 14) (by first | omega | (dsimp only; omega)) (280 * i + 280) (by first | omega | (dsimp only; omega)) 28 rfl (fun r7 M4 k5 hp6 => ?_)
        obtain ⟨rfl, hpd8, hF9, hk10⟩ := hp6
        refine g_lstore_n hC dX0_checksum_28 rfl (Nat.le_of_ble_eq_true rfl) [(1, .long (chN f i (nNw f i) (nNr f i) mm)), (0, .ref xa), (3, .int (nI i))] rfl 29 rfl ?_
        refine g_iinc hC dX0_checksum_29 2 rfl (v := nI (i + 1)) (by rw [ki_1]; exact nI_a (a := i) (b := 1) (c := (i + 1)) (by omega)) (Nat.le_of_ble_eq_true rfl) [(3, .int (nI (i + 1))), (1, .long (chN f i (nNw f i) (nNr f i) mm)), (0, .ref xa)] rfl 32 rfl ?_
        refine g_goto hC dX0_checksum_32 17 rfl ?_
        refine gJ.sub (M' := M4) [2, 1, 0] rfl ?_
        refine gJ.widen (k := 14 * (i + 1)) (n := 280 * (i + 1)) (by first | omega | (dsimp only; omega)) (by first | omega | (dsimp only; omega)) ?_
        exact ih (i + 1) (chN f i (nNw f i) (nNr f i) mm) M4 (by omega) (by rw [hm]; rfl) (by omega) (hF9 _ _ _ hL_0 (show ¬ (tgR 9 0 8) (8, 0) by (try simp only [ndT, tgE, gT, tgR, ndT9, ndW, tg0, Prod.mk.injEq, true_and, and_true, cpyT]); first | done | omega | (simp; done) | simp_all)) hpd8 (hLF.trans (gFr.refl.trans (hF9.mono (fun b t h => by obtain ⟨u9, v9⟩ := t; revert h; (try simp only [ndT, tgE, gT, tgR, ndT9, ndW, tg0, Prod.mk.injEq, true_and, and_true, cpyT]); first | done | omega | (simp; done) | (intro h; simp_all; done)))))
  refine gJ.sub (M' := M) [2, 1, 0] rfl ?_
  refine gJ.widen (k := 14 * 0) (n := 280 * 0) (by first | omega | (dsimp only; omega)) (by first | omega | (dsimp only; omega)) ?_
  exact loop17 _ 0 (31 * 11 + (Int32.toInt64 (nI tm))) M (by omega) rfl (Nat.lt_succ_self _) hM_0 hP_0 gFr.refl
