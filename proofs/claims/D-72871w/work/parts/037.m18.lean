/-! the reference: response times -/
set_option maxRecDepth 100000
theorem nI_nz {n : Nat} (h0 : 0 < n) (h : n < 2 ^ 31) : ¬ nI n = 0 := fun q => by
  have := congrArg Int32.toNatClampNeg q
  rw [nI_clamp h] at this
  exact absurd (this.trans (by decide : Int32.toNatClampNeg 0 = 0)) (by omega)
def wN (n : Nat) : Nat := 47 + 8 * n + (33 + 8 * n) / 4
def blk (e : Nat → Nat) (x : Nat) : Nat → Nat
  | 0 => 0
  | j + 1 => if x < e (4 * j) ∧ blk e x j < wN (e (4 * j + 1)) then wN (e (4 * j + 1)) else blk e x j
def dmd (b w j p : Nat) : Nat := b * ((w + j + p) / p)
def itf (e : Nat → Nat) (x w : Nat) : Nat → Nat
  | 0 => 0
  | j + 1 => itf e x w j + (if e (4 * j) < x then dmd (wN (e (4 * j + 1))) w (e (4 * j + 3)) (e (4 * j + 2)) else 0)
def rsp (nx : Nat → Nat) (own per : Nat) : Nat → Nat → Int32
  | 0, _ => -5
  | F + 1, w => if own + w ≤ per then (if nx w = w then nI (own + w) else rsp nx own per F (nx w)) else -5
def nxT (e : Nat → Nat) (x mc w : Nat) : Nat := blk e x mc + itf e x w mc
def rspT (e : Nat → Nat) (mc i : Nat) : Int32 := rsp (nxT e (e (4 * i)) mc) (e (4 * i + 3) + wN (e (4 * i + 1))) (e (4 * i + 2)) 5001 (blk e (e (4 * i)) mc)
def okE (e : Nat → Nat) (mc : Nat) : Prop := ∀ i, i < mc → e (4 * i) ≤ 2047 ∧ e (4 * i + 1) ≤ 4 ∧ 1 ≤ e (4 * i + 2) ∧ e (4 * i + 2) ≤ 5000 ∧ e (4 * i + 3) ≤ 500
theorem rsp_no {nx : Nat → Nat} {own per w : Nat} (h : per < own + w) : (F : Nat) → rsp nx own per F w = -5
  | 0 => rfl
  | F + 1 => by simp only [rsp, if_neg (Nat.not_le.mpr h)]
theorem rsp_go {nx : Nat → Nat} {own per w F : Nat} (h : own + w ≤ per) (hn : ¬ nx w = w) (hF : 1 ≤ F) : rsp nx own per (F - 1) (nx w) = rsp nx own per F w := by
  obtain ⟨F, rfl⟩ : ∃ z, F = z + 1 := ⟨F - 1, by omega⟩
  simp only [rsp, if_pos h, if_neg hn, Nat.add_sub_cancel]
theorem rsp_end {nx : Nat → Nat} {own per w F : Nat} (h : own + w ≤ per) (hn : nx w = w) (hF : 1 ≤ F) : nI (own + w) = rsp nx own per F w := by
  obtain ⟨F, rfl⟩ : ∃ z, F = z + 1 := ⟨F - 1, by omega⟩
  simp only [rsp, if_pos h, if_pos hn]
theorem dmd_mono {b w w' j p : Nat} (h : w ≤ w') : dmd b w j p ≤ dmd b w' j p := Nat.mul_le_mul_left _ (Nat.div_le_div_right (by omega))
theorem itf_mono {e : Nat → Nat} {x w w' : Nat} (h : w ≤ w') : (j : Nat) → itf e x w j ≤ itf e x w' j
  | 0 => Nat.le_refl _
  | j + 1 => by
    have h1 := itf_mono (e := e) (x := x) h j
    have h2 := dmd_mono (b := wN (e (4 * j + 1))) (j := e (4 * j + 3)) (p := e (4 * j + 2)) h
    simp only [itf]; split <;> omega
theorem wN_le {n : Nat} (h : n ≤ 4) : wN n ≤ 95 := by simp only [wN]; omega
theorem blk_le {e : Nat → Nat} {x mc : Nat} (h : okE e mc) : (j : Nat) → j ≤ mc → blk e x j ≤ 95
  | 0, _ => Nat.zero_le _
  | j + 1, hj => by
    have h1 := blk_le (x := x) h j (by omega)
    have h2 := wN_le (h j (by omega)).2.1
    simp only [blk]; split <;> omega
theorem quo_le {w j p : Nat} (hw : w ≤ 5000) (hj : j ≤ 500) (hp : 1 ≤ p) (hp' : p ≤ 5000) : (w + j + p) / p ≤ 10500 := Nat.le_trans (Nat.div_le_self _ _) (by omega)
theorem dmd_le {b w j p : Nat} (hb : b ≤ 95) (hw : w ≤ 5000) (hj : j ≤ 500) (hp : 1 ≤ p) (hp' : p ≤ 5000) : dmd b w j p ≤ 1000000 := by
  have h := Nat.mul_le_mul hb (quo_le hw hj hp hp')
  simp only [dmd]; omega
set_option maxHeartbeats 4000000 in
theorem met_T_worst_k (l : Launch) (G : gG) (M : gM) (ln : Nat) (hln : ln ≤ 4)  : Met l yX8_worst (ws_ yX8_worst cX8_worst 1 (some .int)) ({ frames := 0, cells := 0, slots := 0, locals := 0 }) (gPc G [.int (nI ln)] M) (gQi G (fun r9 M9 k9 => r9 = (nI (wN ln)) ∧ M9 = M ∧ k9 = 0)) 0 0 (gA G) := by
  refine gMet [(0, .int (nI ln))] (by decide) (Nat.le_of_ble_eq_true rfl) rfl ?_
  intro p e s m below meth c hC
  refine g_bipush hC dX8_worst_0 kb_47 2 rfl ?_
  refine g_bipush hC dX8_worst_2 kb_8 4 rfl ?_
  refine g_iload_n hC dX8_worst_4 0 rfl 5 rfl ?_
  refine g_imul hC dX8_worst_5 6 rfl ?_
  refine g_topi (y := nI (8 * ln)) (nI_m (a := 8) (b := ln) (c := (8 * ln)) (by omega)) ?_
  refine g_iadd hC dX8_worst_6 7 rfl ?_
  refine g_topi (y := nI (8 * ln + 47)) (nI_a (a := 47) (b := (8 * ln)) (c := (8 * ln + 47)) (by omega)) ?_
  refine g_bipush hC dX8_worst_7 kb_33 9 rfl ?_
  refine g_bipush hC dX8_worst_9 kb_8 11 rfl ?_
  refine g_iload_n hC dX8_worst_11 0 rfl 12 rfl ?_
  refine g_imul hC dX8_worst_12 13 rfl ?_
  refine g_topi (y := nI (8 * ln)) (nI_m (a := 8) (b := ln) (c := (8 * ln)) (by omega)) ?_
  refine g_iadd hC dX8_worst_13 14 rfl ?_
  refine g_topi (y := nI (8 * ln + 33)) (nI_a (a := 33) (b := (8 * ln)) (c := (8 * ln + 33)) (by omega)) ?_
  refine g_iconst hC dX8_worst_14 ki_4 15 rfl ?_
  refine g_idiv hC dX8_worst_15 (by decide) 16 rfl ?_
  obtain ⟨d1, ed2⟩ : ∃ z9, z9 = (8 * ln + 33) / 4 := ⟨_, rfl⟩
  refine g_topi (y := nI d1) ((pk_div (a := (8 * ln + 33)) (d := 4) (by omega) (by omega) (by omega)).trans (congrArg nI ed2.symm)) ?_
  refine g_iadd hC dX8_worst_16 17 rfl ?_
  refine g_topi (y := nI (8 * ln + d1 + 47)) (nI_a (a := (8 * ln + 47)) (b := d1) (c := (8 * ln + d1 + 47)) (by omega)) ?_
  exact g_iret (v := nI (8 * ln + d1 + 47)) hC (fun k9 hk9 => ⟨(by congr 1; simp only [wN]; omega), rfl, Nat.le_zero.mp hk9⟩) dX8_worst_17 (Nat.le_of_ble_eq_true rfl) (Nat.le_of_ble_eq_true rfl)
set_option maxHeartbeats 4000000 in
theorem met_T_response (l : Launch) (G : gG) (M : gM) (o : Nat) (av : Nat) (asp : Nat) (ak : Nat) (aik : Nat) (atx : Nat) (le : Int32) (am : Nat) (mc : Nat) (aa : Nat) (pl : Int32) (ato : Nat) (g : Nat → Int32) (i : Nat) (ev : Nat → Nat) (hmc : mc ≤ 8) (hi : i < mc) (hg : ∀ k, k < 4 * mc → g k = nI (ev k)) (hok : okE ev mc) (hM_0 : M o = some ((1, 0), .inr (7, [.ref av, .ref asp, .ref ak, .ref aik, .ref atx, .int le, .ref am, .int (nI mc), .ref aa, .int pl, .ref ato]))) (hM_1 : M am = some ((1, 6), .inl (gcs G 0, 32, .inl g))) : Met l yX8_response (ws_ yX8_response cX8_response 8 (some .int)) ({ frames := 1, cells := 0, slots := 0, locals := 20 }) (gPc G [.ref o, .int (nI i)] M) (gQi G (fun r9 M9 k9 => r9 = (rspT ev mc i) ∧ M9 = M ∧ k9 = 0)) 0 0 (gA G) := by
  refine gMet [(0, .ref o), (1, .int (nI i))] (by decide) (Nat.le_of_ble_eq_true rfl) rfl ?_
  intro p e s m below meth c hC
  have iok := hok i (by omega)
  obtain ⟨ix, iex⟩ : ∃ z9, z9 = ev (4 * i) := ⟨_, rfl⟩
  have ifx : g (4 * i) = nI ix := (hg (4 * i) (by omega)).trans (congrArg nI iex.symm)
  obtain ⟨il, iel⟩ : ∃ z9, z9 = ev (4 * i + 1) := ⟨_, rfl⟩
  have ifl : g (4 * i + 1) = nI il := (hg (4 * i + 1) (by omega)).trans (congrArg nI iel.symm)
  obtain ⟨ip, iep⟩ : ∃ z9, z9 = ev (4 * i + 2) := ⟨_, rfl⟩
  have ifp : g (4 * i + 2) = nI ip := (hg (4 * i + 2) (by omega)).trans (congrArg nI iep.symm)
  obtain ⟨ij, iej⟩ : ∃ z9, z9 = ev (4 * i + 3) := ⟨_, rfl⟩
  have ifj : g (4 * i + 3) = nI ij := (hg (4 * i + 3) (by omega)).trans (congrArg nI iej.symm)
  rw [← iex, ← iel, ← iep, ← iej] at iok
  have wi := wN_le iok.2.1
  refine g_aload_n hC dX8_response_0 0 rfl gRef_r 1 rfl ?_
  refine g_get (v := .ref am) hC cI7 hM_0 6 (Nat.le_of_ble_eq_true rfl) q2948 rfl dX8_response_1 4 rfl ?_
  refine g_iconst hC dX8_response_4 ki_4 5 rfl ?_
  refine g_iload_n hC dX8_response_5 1 rfl 6 rfl ?_
  refine g_imul hC dX8_response_6 7 rfl ?_
  refine g_topi (y := nI (4 * i)) (nI_m (a := 4) (b := i) (c := (4 * i)) (by omega)) ?_
  refine g_iconst hC dX8_response_7 ki_3 8 rfl ?_
  refine g_iadd hC dX8_response_8 9 rfl ?_
  refine g_topi (y := nI (4 * i + 3)) (nI_a (a := (4 * i)) (b := 3) (c := (4 * i + 3)) (by omega)) ?_
  refine g_iald (v := nI ij) hC hM_1 0 rfl (vp_in_nI (by omega) (by omega)) ((congrArg g (nI_clamp (by omega))).trans ifj) dX8_response_9 10 rfl ?_
  refine g_aload_n hC dX8_response_10 0 rfl gRef_r 11 rfl ?_
  refine g_get (v := .ref am) hC cI7 hM_0 6 (Nat.le_of_ble_eq_true rfl) q2948 rfl dX8_response_11 14 rfl ?_
  refine g_iconst hC dX8_response_14 ki_4 15 rfl ?_
  refine g_iload_n hC dX8_response_15 1 rfl 16 rfl ?_
  refine g_imul hC dX8_response_16 17 rfl ?_
  refine g_topi (y := nI (4 * i)) (nI_m (a := 4) (b := i) (c := (4 * i)) (by omega)) ?_
  refine g_iconst hC dX8_response_17 ki_1 18 rfl ?_
  refine g_iadd hC dX8_response_18 19 rfl ?_
  refine g_topi (y := nI (4 * i + 1)) (nI_a (a := (4 * i)) (b := 1) (c := (4 * i + 1)) (by omega)) ?_
  refine g_iald (v := nI il) hC hM_1 0 rfl (vp_in_nI (by omega) (by omega)) ((congrArg g (nI_clamp (by omega))).trans ifl) dX8_response_19 20 rfl ?_
  refine g_calliP (g_S (As := [.int (nI il)]) (rest := [.int (nI ij)]) hC msX8_worst q3012 (met_T_worst_k l G M il (by first | assumption | decide | omega | simp_all)) ⟨rfl, rfl⟩ ⟨(Nat.le_of_ble_eq_true rfl), (Nat.le_of_ble_eq_true rfl)⟩ rfl (Nat.le_of_ble_eq_true rfl) dX8_response_20 rfl ⟨(Nat.le_of_ble_eq_true rfl), (Nat.le_of_ble_eq_true rfl)⟩) 23 rfl 0 (Nat.le_of_ble_eq_true rfl) ?_
  refine g_iadd hC dX8_response_23 24 rfl ?_
  refine g_topi (y := nI (ij + wN il)) (nI_a (a := ij) (b := (wN il)) (c := (ij + wN il)) (by omega)) ?_
  refine g_istore_n hC dX8_response_24 rfl (Nat.le_of_ble_eq_true rfl) [(2, .int (nI (ij + wN il))), (0, .ref o), (1, .int (nI i))] rfl 25 rfl ?_
  refine g_iconst hC dX8_response_25 ki_0 26 rfl ?_
  refine g_istore_n hC dX8_response_26 rfl (Nat.le_of_ble_eq_true rfl) [(3, .int 0), (2, .int (nI (ij + wN il))), (0, .ref o), (1, .int (nI i))] rfl 27 rfl ?_
  refine g_iconst hC dX8_response_27 ki_0 28 rfl ?_
  refine g_istore hC dX8_response_28 (Nat.le_of_ble_eq_true rfl) [(4, .int 0), (3, .int 0), (2, .int (nI (ij + wN il))), (0, .ref o), (1, .int (nI i))] rfl 30 rfl ?_
  have loop30 : ∀ (n9 : Nat) (k : Nat) (bl : Nat), (hk : k ≤ mc) → (hb95 : bl ≤ 95) → (hb : bl = blk ev ix k) → mc - k < n9 → (M o = some ((1, 0), .inr (7, [.ref av, .ref asp, .ref ak, .ref aik, .ref atx, .int le, .ref am, .int (nI mc), .ref aa, .int pl, .ref ato]))) → (M am = some ((1, 6), .inl (gcs G 0, 32, .inl g))) → gJ p l e ({ frames := 1, cells := 0, slots := 0, locals := 20 } : Room) s m ([.ref o, .int (nI i)] : List Value).toArray below meth c G 8 (MQ below (gQi G (fun r9 M9 k9 => r9 = (rspT ev mc i) ∧ M9 = M ∧ k9 = 0)) ([.ref o, .int (nI i)] : List Value).toArray s 0 0 (gA G)) 0 0 M 30 [(0, .ref o), (1, .int (nI i)), (2, .int (nI (ij + wN il))), (3, .int (nI bl)), (4, .int (nI k))] [] := by
    intro n9
    induction n9 with
    | zero => intro k bl hk hb95 hb hmu; exact absurd hmu (Nat.not_lt_zero _)
    | succ n9 ih =>
      intro k bl hk hb95 hb hmu hL_0 hL_1
      refine g_iload hC dX8_response_30 4 rfl 32 rfl ?_
      refine g_aload_n hC dX8_response_32 0 rfl gRef_r 33 rfl ?_
      refine g_get (v := .int (nI mc)) hC cI7 hL_0 7 (Nat.le_of_ble_eq_true rfl) q2949 rfl dX8_response_33 36 rfl ?_
      refine g_icmp_ge hC dX8_response_36 94 rfl 39 rfl (fun c_1 => ?_) (fun c_1 => ?_)
      · replace c_1 : mc ≤ k := nn_le (by omega) (by omega) c_1
        have hkm : k = mc := by omega
        have hbm : bl = blk ev ix mc := by rw [hb, hkm]
        refine g_iload_n hC dX8_response_94 3 rfl 95 rfl ?_
        refine g_istore hC dX8_response_95 (Nat.le_of_ble_eq_true rfl) [(4, .int (nI bl)), (0, .ref o), (1, .int (nI i)), (2, .int (nI (ij + wN il))), (3, .int (nI bl))] rfl 97 rfl ?_
        have loop97 : ∀ (n9 : Nat) (w : Nat) (F : Nat), (hw : w ≤ nxT ev ix mc w) → (h5 : 5001 ≤ F + w) → (hw6 : w ≤ 9000000) → (ht : rsp (nxT ev ix mc) (ij + wN il) ip F w = rspT ev mc i) → F < n9 → (M o = some ((1, 0), .inr (7, [.ref av, .ref asp, .ref ak, .ref aik, .ref atx, .int le, .ref am, .int (nI mc), .ref aa, .int pl, .ref ato]))) → (M am = some ((1, 6), .inl (gcs G 0, 32, .inl g))) → gJ p l e ({ frames := 1, cells := 0, slots := 0, locals := 20 } : Room) s m ([.ref o, .int (nI i)] : List Value).toArray below meth c G 8 (MQ below (gQi G (fun r9 M9 k9 => r9 = (rspT ev mc i) ∧ M9 = M ∧ k9 = 0)) ([.ref o, .int (nI i)] : List Value).toArray s 0 0 (gA G)) 0 0 M 97 [(0, .ref o), (1, .int (nI i)), (2, .int (nI (ij + wN il))), (3, .int (nI bl)), (4, .int (nI w))] [] := by
          intro n9
          induction n9 with
          | zero => intro w F hw h5 hw6 ht hmu; exact absurd hmu (Nat.not_lt_zero _)
          | succ n9 ih97 =>
            intro w F hw h5 hw6 ht hmu hL_0 hL_1
            refine g_iload_n hC dX8_response_97 2 rfl 98 rfl ?_
            refine g_iload hC dX8_response_98 4 rfl 100 rfl ?_
            refine g_iadd hC dX8_response_100 101 rfl ?_
            refine g_topi (y := nI (ij + wN il + w)) (nI_a (a := (ij + wN il)) (b := w) (c := (ij + wN il + w)) (by omega)) ?_
            refine g_aload_n hC dX8_response_101 0 rfl gRef_r 102 rfl ?_
            refine g_get (v := .ref am) hC cI7 hL_0 6 (Nat.le_of_ble_eq_true rfl) q2948 rfl dX8_response_102 105 rfl ?_
            refine g_iconst hC dX8_response_105 ki_4 106 rfl ?_
            refine g_iload_n hC dX8_response_106 1 rfl 107 rfl ?_
            refine g_imul hC dX8_response_107 108 rfl ?_
            refine g_topi (y := nI (4 * i)) (nI_m (a := 4) (b := i) (c := (4 * i)) (by omega)) ?_
            refine g_iconst hC dX8_response_108 ki_2 109 rfl ?_
            refine g_iadd hC dX8_response_109 110 rfl ?_
            refine g_topi (y := nI (4 * i + 2)) (nI_a (a := (4 * i)) (b := 2) (c := (4 * i + 2)) (by omega)) ?_
            refine g_iald (v := nI ip) hC hL_1 0 rfl (vp_in_nI (by omega) (by omega)) ((congrArg g (nI_clamp (by omega))).trans ifp) dX8_response_110 111 rfl ?_
            refine g_icmp_gt hC dX8_response_111 231 rfl 114 rfl (fun c_2 => ?_) (fun c_2 => ?_)
            · replace c_2 : ip < ij + wN il + w := nn_lt (by omega) (by omega) c_2
              refine g_bipush hC dX8_response_231 kb_m5 233 rfl ?_
              exact g_iret (v := -5) hC (fun k9 hk9 => ⟨(by rw [← ht]; exact (rsp_no c_2 F).symm), rfl, Nat.le_zero.mp hk9⟩) dX8_response_233 (Nat.le_of_ble_eq_true rfl) (Nat.le_of_ble_eq_true rfl)
            · replace c_2 : ij + wN il + w ≤ ip := nn_nlt (by omega) (by omega) c_2
              refine g_iload_n hC dX8_response_114 3 rfl 115 rfl ?_
              refine g_istore hC dX8_response_115 (Nat.le_of_ble_eq_true rfl) [(5, .int (nI bl)), (0, .ref o), (1, .int (nI i)), (2, .int (nI (ij + wN il))), (3, .int (nI bl)), (4, .int (nI w))] rfl 117 rfl ?_
              refine g_iconst hC dX8_response_117 ki_0 118 rfl ?_
              refine g_istore hC dX8_response_118 (Nat.le_of_ble_eq_true rfl) [(6, .int 0), (5, .int (nI bl)), (0, .ref o), (1, .int (nI i)), (2, .int (nI (ij + wN il))), (3, .int (nI bl)), (4, .int (nI w))] rfl 120 rfl ?_
              have loop120 : ∀ (n9 : Nat) (nx : Nat) (q : Nat), (hq : q ≤ mc) → (hn : nx = bl + itf ev ix w q) → (hnb : nx ≤ 1000000 * q + 95) → mc - q < n9 → (M o = some ((1, 0), .inr (7, [.ref av, .ref asp, .ref ak, .ref aik, .ref atx, .int le, .ref am, .int (nI mc), .ref aa, .int pl, .ref ato]))) → (M am = some ((1, 6), .inl (gcs G 0, 32, .inl g))) → gJ p l e ({ frames := 1, cells := 0, slots := 0, locals := 20 } : Room) s m ([.ref o, .int (nI i)] : List Value).toArray below meth c G 8 (MQ below (gQi G (fun r9 M9 k9 => r9 = (rspT ev mc i) ∧ M9 = M ∧ k9 = 0)) ([.ref o, .int (nI i)] : List Value).toArray s 0 0 (gA G)) 0 0 M 120 [(0, .ref o), (1, .int (nI i)), (2, .int (nI (ij + wN il))), (3, .int (nI bl)), (4, .int (nI w)), (5, .int (nI nx)), (6, .int (nI q))] [] := by
                intro n9
                induction n9 with
                | zero => intro nx q hq hn hnb hmu; exact absurd hmu (Nat.not_lt_zero _)
                | succ n9 ih120 =>
                  intro nx q hq hn hnb hmu hL_0 hL_1
                  refine g_iload hC dX8_response_120 6 rfl 122 rfl ?_
                  refine g_aload_n hC dX8_response_122 0 rfl gRef_r 123 rfl ?_
                  refine g_get (v := .int (nI mc)) hC cI7 hL_0 7 (Nat.le_of_ble_eq_true rfl) q2949 rfl dX8_response_123 126 rfl ?_
                  refine g_icmp_ge hC dX8_response_126 212 rfl 129 rfl (fun c_3 => ?_) (fun c_3 => ?_)
                  · replace c_3 : mc ≤ q := nn_le (by omega) (by omega) c_3
                    have hqm : q = mc := by omega
                    have hnn : nx = nxT ev ix mc w := by rw [hn, hqm, hbm]; rfl
                    refine g_iload hC dX8_response_212 5 rfl 214 rfl ?_
                    refine g_iload hC dX8_response_214 4 rfl 216 rfl ?_
                    refine g_icmp_ne hC dX8_response_216 224 rfl 219 rfl (fun c_4 => ?_) (fun c_4 => ?_)
                    · replace c_4 : ¬ nx = w := nn_neq (by omega) (by omega) c_4
                      refine g_iload hC dX8_response_224 5 rfl 226 rfl ?_
                      refine g_istore hC dX8_response_226 (Nat.le_of_ble_eq_true rfl) [(4, .int (nI nx)), (0, .ref o), (1, .int (nI i)), (2, .int (nI (ij + wN il))), (3, .int (nI bl)), (5, .int (nI nx)), (6, .int (nI q))] rfl 228 rfl ?_
                      refine g_goto hC dX8_response_228 97 rfl ?_
                      refine gJ.sub (M' := M) [1, 2, 3, 4, 0] rfl ?_
                      exact ih97 nx (F - 1) (by rw [hnn]; exact Nat.add_le_add_left (itf_mono hw mc) _) (by omega) (by omega) (by rw [hnn, ← ht]; exact rsp_go (by omega) (by omega) (by omega)) (by omega) hL_0 hL_1
                    · replace c_4 : nx = w := nn_eq (by omega) (by omega) c_4
                      refine g_iload_n hC dX8_response_219 2 rfl 220 rfl ?_
                      refine g_iload hC dX8_response_220 4 rfl 222 rfl ?_
                      refine g_iadd hC dX8_response_222 223 rfl ?_
                      refine g_topi (y := nI (ij + wN il + w)) (nI_a (a := (ij + wN il)) (b := w) (c := (ij + wN il + w)) (by omega)) ?_
                      exact g_iret (v := nI (ij + wN il + w)) hC (fun k9 hk9 => ⟨(by rw [← ht]; exact rsp_end (by omega) (by omega) (by omega)), rfl, Nat.le_zero.mp hk9⟩) dX8_response_223 (Nat.le_of_ble_eq_true rfl) (Nat.le_of_ble_eq_true rfl)
                  · replace c_3 : q < mc := nn_nle (by omega) (by omega) c_3
                    have qok := hok q (by omega)
                    obtain ⟨qx, qex⟩ : ∃ z9, z9 = ev (4 * q) := ⟨_, rfl⟩
                    have qfx : g (4 * q) = nI qx := (hg (4 * q) (by omega)).trans (congrArg nI qex.symm)
                    obtain ⟨ql, qel⟩ : ∃ z9, z9 = ev (4 * q + 1) := ⟨_, rfl⟩
                    have qfl : g (4 * q + 1) = nI ql := (hg (4 * q + 1) (by omega)).trans (congrArg nI qel.symm)
                    obtain ⟨qp, qep⟩ : ∃ z9, z9 = ev (4 * q + 2) := ⟨_, rfl⟩
                    have qfp : g (4 * q + 2) = nI qp := (hg (4 * q + 2) (by omega)).trans (congrArg nI qep.symm)
                    obtain ⟨qj, qej⟩ : ∃ z9, z9 = ev (4 * q + 3) := ⟨_, rfl⟩
                    have qfj : g (4 * q + 3) = nI qj := (hg (4 * q + 3) (by omega)).trans (congrArg nI qej.symm)
                    rw [← qex, ← qel, ← qep, ← qej] at qok
                    have wq := wN_le qok.2.1
                    have hdm := dmd_le wq (show w ≤ 5000 by omega) qok.2.2.2.2 qok.2.2.1 qok.2.2.2.1
                    refine g_aload_n hC dX8_response_129 0 rfl gRef_r 130 rfl ?_
                    refine g_get (v := .ref am) hC cI7 hL_0 6 (Nat.le_of_ble_eq_true rfl) q2948 rfl dX8_response_130 133 rfl ?_
                    refine g_iconst hC dX8_response_133 ki_4 134 rfl ?_
                    refine g_iload hC dX8_response_134 6 rfl 136 rfl ?_
                    refine g_imul hC dX8_response_136 137 rfl ?_
                    refine g_topi (y := nI (4 * q)) (nI_m (a := 4) (b := q) (c := (4 * q)) (by omega)) ?_
                    refine g_iconst hC dX8_response_137 ki_2 138 rfl ?_
                    refine g_iadd hC dX8_response_138 139 rfl ?_
                    refine g_topi (y := nI (4 * q + 2)) (nI_a (a := (4 * q)) (b := 2) (c := (4 * q + 2)) (by omega)) ?_
                    refine g_iald (v := nI qp) hC hL_1 0 rfl (vp_in_nI (by omega) (by omega)) ((congrArg g (nI_clamp (by omega))).trans qfp) dX8_response_139 140 rfl ?_
                    refine g_istore hC dX8_response_140 (Nat.le_of_ble_eq_true rfl) [(7, .int (nI qp)), (0, .ref o), (1, .int (nI i)), (2, .int (nI (ij + wN il))), (3, .int (nI bl)), (4, .int (nI w)), (5, .int (nI nx)), (6, .int (nI q))] rfl 142 rfl ?_
                    refine g_iload hC dX8_response_142 6 rfl 144 rfl ?_
                    refine g_aload_n hC dX8_response_144 1 rfl gRef_r 145 rfl ?_
                    refine g_get (v := .ref am) hC cI7 hL_0 6 (Nat.le_of_ble_eq_true rfl) q2948 rfl dX8_response_145 148 rfl ?_
                    refine g_iconst hC dX8_response_148 ki_4 149 rfl ?_
                    refine g_iload hC dX8_response_149 7 rfl 151 rfl ?_
                    refine g_imul hC dX8_response_151 152 rfl ?_
                    refine g_topi (y := nI (4 * q)) (nI_m (a := 4) (b := q) (c := (4 * q)) (by omega)) ?_
                    refine g_iald (v := nI qx) hC hL_1 0 rfl (vp_in_nI (by omega) (by omega)) ((congrArg g (nI_clamp (by omega))).trans qfx) dX8_response_152 153 rfl ?_
                    refine g_aload_n hC dX8_response_153 1 rfl gRef_r 154 rfl ?_
                    refine g_get (v := .ref am) hC cI7 hL_0 6 (Nat.le_of_ble_eq_true rfl) q2948 rfl dX8_response_154 157 rfl ?_
                    refine g_iconst hC dX8_response_157 ki_4 158 rfl ?_
                    refine g_iload_n hC dX8_response_158 2 rfl 159 rfl ?_
                    refine g_imul hC dX8_response_159 160 rfl ?_
                    refine g_topi (y := nI (4 * i)) (nI_m (a := 4) (b := i) (c := (4 * i)) (by omega)) ?_
                    refine g_iald (v := nI ix) hC hL_1 0 rfl (vp_in_nI (by omega) (by omega)) ((congrArg g (nI_clamp (by omega))).trans ifx) dX8_response_160 161 rfl ?_
                    refine g_icmp_ge hC dX8_response_161 202 rfl 164 rfl (fun c_5 => ?_) (fun c_5 => ?_)
                    · replace c_5 : ix ≤ qx := nn_le (by omega) (by omega) c_5
                      refine g_iconst hC dX8_response_202 ki_0 203 rfl ?_
                      refine g_iadd hC dX8_response_203 204 rfl ?_
                      refine g_topi (y := nI nx) (nI_a (a := nx) (b := 0) (c := nx) (by omega)) ?_
                      refine g_istore hC dX8_response_204 (Nat.le_of_ble_eq_true rfl) [(5, .int (nI nx)), (7, .int (nI qp)), (0, .ref o), (1, .int (nI i)), (2, .int (nI (ij + wN il))), (3, .int (nI bl)), (4, .int (nI w)), (6, .int (nI q))] rfl 206 rfl ?_
                      refine g_iinc hC dX8_response_206 7 rfl (v := nI (q + 1)) (by rw [ki_1]; exact nI_a (a := q) (b := 1) (c := (q + 1)) (by omega)) (Nat.le_of_ble_eq_true rfl) [(6, .int (nI (q + 1))), (5, .int (nI nx)), (7, .int (nI qp)), (0, .ref o), (1, .int (nI i)), (2, .int (nI (ij + wN il))), (3, .int (nI bl)), (4, .int (nI w))] rfl 209 rfl ?_
                      refine g_goto hC dX8_response_209 120 rfl ?_
                      refine gJ.sub (M' := M) [3, 4, 5, 6, 7, 1, 0] rfl ?_
                      exact ih120 nx (q + 1) (by omega) (by rw [show itf ev ix w (q + 1) = itf ev ix w q + (if ev (4 * q) < ix then dmd (wN (ev (4 * q + 1))) w (ev (4 * q + 3)) (ev (4 * q + 2)) else 0) from rfl, ← qex, ← qel, ← qep, ← qej, if_neg (by omega), Nat.add_zero, hn]) (by omega) (by omega) hL_0 hL_1
                    · replace c_5 : qx < ix := nn_nle (by omega) (by omega) c_5
                      refine g_aload_n hC dX8_response_164 1 rfl gRef_r 165 rfl ?_
                      refine g_get (v := .ref am) hC cI7 hL_0 6 (Nat.le_of_ble_eq_true rfl) q2948 rfl dX8_response_165 168 rfl ?_
                      refine g_iconst hC dX8_response_168 ki_4 169 rfl ?_
                      refine g_iload hC dX8_response_169 7 rfl 171 rfl ?_
                      refine g_imul hC dX8_response_171 172 rfl ?_
                      refine g_topi (y := nI (4 * q)) (nI_m (a := 4) (b := q) (c := (4 * q)) (by omega)) ?_
                      refine g_iconst hC dX8_response_172 ki_1 173 rfl ?_
                      refine g_iadd hC dX8_response_173 174 rfl ?_
                      refine g_topi (y := nI (4 * q + 1)) (nI_a (a := (4 * q)) (b := 1) (c := (4 * q + 1)) (by omega)) ?_
                      refine g_iald (v := nI ql) hC hL_1 0 rfl (vp_in_nI (by omega) (by omega)) ((congrArg g (nI_clamp (by omega))).trans qfl) dX8_response_174 175 rfl ?_
                      refine g_calliP (g_S (As := [.int (nI ql)]) (rest := [.int (nI nx)]) hC msX8_worst q3012 (met_T_worst_k l G M ql (by first | assumption | decide | omega | simp_all)) ⟨rfl, rfl⟩ ⟨(Nat.le_of_ble_eq_true rfl), (Nat.le_of_ble_eq_true rfl)⟩ rfl (Nat.le_of_ble_eq_true rfl) dX8_response_175 rfl ⟨(Nat.le_of_ble_eq_true rfl), (Nat.le_of_ble_eq_true rfl)⟩) 178 rfl 0 (Nat.le_of_ble_eq_true rfl) ?_
                      refine g_iload hC dX8_response_178 5 rfl 180 rfl ?_
                      refine g_aload_n hC dX8_response_180 1 rfl gRef_r 181 rfl ?_
                      refine g_get (v := .ref am) hC cI7 hL_0 6 (Nat.le_of_ble_eq_true rfl) q2948 rfl dX8_response_181 184 rfl ?_
                      refine g_iconst hC dX8_response_184 ki_4 185 rfl ?_
                      refine g_iload hC dX8_response_185 7 rfl 187 rfl ?_
                      refine g_imul hC dX8_response_187 188 rfl ?_
                      refine g_topi (y := nI (4 * q)) (nI_m (a := 4) (b := q) (c := (4 * q)) (by omega)) ?_
                      refine g_iconst hC dX8_response_188 ki_3 189 rfl ?_
                      refine g_iadd hC dX8_response_189 190 rfl ?_
                      refine g_topi (y := nI (4 * q + 3)) (nI_a (a := (4 * q)) (b := 3) (c := (4 * q + 3)) (by omega)) ?_
                      refine g_iald (v := nI qj) hC hL_1 0 rfl (vp_in_nI (by omega) (by omega)) ((congrArg g (nI_clamp (by omega))).trans qfj) dX8_response_190 191 rfl ?_
                      refine g_iadd hC dX8_response_191 192 rfl ?_
                      refine g_topi (y := nI (w + qj)) (nI_a (a := w) (b := qj) (c := (w + qj)) (by omega)) ?_
                      refine g_iload hC dX8_response_192 0 rfl 194 rfl ?_
                      refine g_iadd hC dX8_response_194 195 rfl ?_
                      refine g_topi (y := nI (w + qj + qp)) (nI_a (a := (w + qj)) (b := qp) (c := (w + qj + qp)) (by omega)) ?_
                      refine g_iload hC dX8_response_195 0 rfl 197 rfl ?_
                      refine g_idiv hC dX8_response_197 (nI_nz (by omega) (by omega)) 198 rfl ?_
                      obtain ⟨d6, ed7⟩ : ∃ z9, z9 = (w + qj + qp) / qp := ⟨_, rfl⟩
                      refine g_topi (y := nI d6) ((pk_div (a := (w + qj + qp)) (d := qp) (by omega) (by omega) (by omega)).trans (congrArg nI ed7.symm)) ?_
                      refine g_imul hC dX8_response_198 199 rfl ?_
                      obtain ⟨d8, ed9⟩ : ∃ z9, z9 = (wN ql) * d6 := ⟨_, rfl⟩
                      refine g_topi (y := nI d8) (nI_m ed9.symm) ?_
                      rw [ed7] at ed9
                      have hd9 : d8 = dmd (wN ql) w qj qp := by rw [ed9]; rfl
                      refine g_goto hC dX8_response_199 203 rfl ?_
                      refine g_iadd hC dX8_response_203 204 rfl ?_
                      refine g_topi (y := nI (nx + d8)) (nI_a (a := nx) (b := d8) (c := (nx + d8)) (by omega)) ?_
                      refine g_istore hC dX8_response_204 (Nat.le_of_ble_eq_true rfl) [(5, .int (nI (nx + d8))), (7, .int (nI qp)), (0, .ref o), (1, .int (nI i)), (2, .int (nI (ij + wN il))), (3, .int (nI bl)), (4, .int (nI w)), (6, .int (nI q))] rfl 206 rfl ?_
                      refine g_iinc hC dX8_response_206 7 rfl (v := nI (q + 1)) (by rw [ki_1]; exact nI_a (a := q) (b := 1) (c := (q + 1)) (by omega)) (Nat.le_of_ble_eq_true rfl) [(6, .int (nI (q + 1))), (5, .int (nI (nx + d8))), (7, .int (nI qp)), (0, .ref o), (1, .int (nI i)), (2, .int (nI (ij + wN il))), (3, .int (nI bl)), (4, .int (nI w))] rfl 209 rfl ?_
                      refine g_goto hC dX8_response_209 120 rfl ?_
                      refine gJ.sub (M' := M) [3, 4, 5, 6, 7, 1, 0] rfl ?_
                      exact ih120 (nx + d8) (q + 1) (by omega) (by rw [show itf ev ix w (q + 1) = itf ev ix w q + (if ev (4 * q) < ix then dmd (wN (ev (4 * q + 1))) w (ev (4 * q + 3)) (ev (4 * q + 2)) else 0) from rfl, ← qex, ← qel, ← qep, ← qej, if_pos (by omega), hn, hd9, Nat.add_assoc]) (by omega) (by omega) hL_0 hL_1
              refine gJ.sub (M' := M) [2, 3, 4, 5, 6, 1, 0] rfl ?_
              exact loop120 _ bl 0 (by omega) rfl (by omega) (Nat.lt_succ_self _) hL_0 hL_1
        refine gJ.sub (M' := M) [1, 2, 3, 4, 0] rfl ?_
        exact loop97 _ bl 5001 (by rw [hbm]; exact Nat.le_add_right _ _) (by omega) (by omega) (by rw [hbm, rspT, ← iex, ← iel, ← iep, ← iej]) (Nat.lt_succ_self _) hL_0 hL_1
      · replace c_1 : k < mc := nn_nle (by omega) (by omega) c_1
        have kok := hok k (by omega)
        obtain ⟨kx, kex⟩ : ∃ z9, z9 = ev (4 * k) := ⟨_, rfl⟩
        have kfx : g (4 * k) = nI kx := (hg (4 * k) (by omega)).trans (congrArg nI kex.symm)
        obtain ⟨kl, kel⟩ : ∃ z9, z9 = ev (4 * k + 1) := ⟨_, rfl⟩
        have kfl : g (4 * k + 1) = nI kl := (hg (4 * k + 1) (by omega)).trans (congrArg nI kel.symm)
        obtain ⟨kp, kep⟩ : ∃ z9, z9 = ev (4 * k + 2) := ⟨_, rfl⟩
        have kfp : g (4 * k + 2) = nI kp := (hg (4 * k + 2) (by omega)).trans (congrArg nI kep.symm)
        obtain ⟨kj, kej⟩ : ∃ z9, z9 = ev (4 * k + 3) := ⟨_, rfl⟩
        have kfj : g (4 * k + 3) = nI kj := (hg (4 * k + 3) (by omega)).trans (congrArg nI kej.symm)
        rw [← kex, ← kel, ← kep, ← kej] at kok
        have wl := wN_le kok.2.1
        refine g_aload_n hC dX8_response_39 0 rfl gRef_r 40 rfl ?_
        refine g_get (v := .ref am) hC cI7 hL_0 6 (Nat.le_of_ble_eq_true rfl) q2948 rfl dX8_response_40 43 rfl ?_
        refine g_iconst hC dX8_response_43 ki_4 44 rfl ?_
        refine g_iload hC dX8_response_44 4 rfl 46 rfl ?_
        refine g_imul hC dX8_response_46 47 rfl ?_
        refine g_topi (y := nI (4 * k)) (nI_m (a := 4) (b := k) (c := (4 * k)) (by omega)) ?_
        refine g_iconst hC dX8_response_47 ki_1 48 rfl ?_
        refine g_iadd hC dX8_response_48 49 rfl ?_
        refine g_topi (y := nI (4 * k + 1)) (nI_a (a := (4 * k)) (b := 1) (c := (4 * k + 1)) (by omega)) ?_
        refine g_iald (v := nI kl) hC hL_1 0 rfl (vp_in_nI (by omega) (by omega)) ((congrArg g (nI_clamp (by omega))).trans kfl) dX8_response_49 50 rfl ?_
        refine g_calliP (g_S (As := [.int (nI kl)]) (rest := []) hC msX8_worst q3012 (met_T_worst_k l G M kl (by first | assumption | decide | omega | simp_all)) ⟨rfl, rfl⟩ ⟨(Nat.le_of_ble_eq_true rfl), (Nat.le_of_ble_eq_true rfl)⟩ rfl (Nat.le_of_ble_eq_true rfl) dX8_response_50 rfl ⟨(Nat.le_of_ble_eq_true rfl), (Nat.le_of_ble_eq_true rfl)⟩) 53 rfl 0 (Nat.le_of_ble_eq_true rfl) ?_
        refine g_istore hC dX8_response_53 (Nat.le_of_ble_eq_true rfl) [(5, .int (nI (wN kl))), (0, .ref o), (1, .int (nI i)), (2, .int (nI (ij + wN il))), (3, .int (nI bl)), (4, .int (nI k))] rfl 55 rfl ?_
        refine g_aload_n hC dX8_response_55 1 rfl gRef_r 56 rfl ?_
        refine g_get (v := .ref am) hC cI7 hL_0 6 (Nat.le_of_ble_eq_true rfl) q2948 rfl dX8_response_56 59 rfl ?_
        refine g_iconst hC dX8_response_59 ki_4 60 rfl ?_
        refine g_iload hC dX8_response_60 5 rfl 62 rfl ?_
        refine g_imul hC dX8_response_62 63 rfl ?_
        refine g_topi (y := nI (4 * k)) (nI_m (a := 4) (b := k) (c := (4 * k)) (by omega)) ?_
        refine g_iald (v := nI kx) hC hL_1 0 rfl (vp_in_nI (by omega) (by omega)) ((congrArg g (nI_clamp (by omega))).trans kfx) dX8_response_63 64 rfl ?_
        refine g_aload_n hC dX8_response_64 1 rfl gRef_r 65 rfl ?_
        refine g_get (v := .ref am) hC cI7 hL_0 6 (Nat.le_of_ble_eq_true rfl) q2948 rfl dX8_response_65 68 rfl ?_
        refine g_iconst hC dX8_response_68 ki_4 69 rfl ?_
        refine g_iload_n hC dX8_response_69 2 rfl 70 rfl ?_
        refine g_imul hC dX8_response_70 71 rfl ?_
        refine g_topi (y := nI (4 * i)) (nI_m (a := 4) (b := i) (c := (4 * i)) (by omega)) ?_
        refine g_iald (v := nI ix) hC hL_1 0 rfl (vp_in_nI (by omega) (by omega)) ((congrArg g (nI_clamp (by omega))).trans ifx) dX8_response_71 72 rfl ?_
        refine g_icmp_le hC dX8_response_72 86 rfl 75 rfl (fun c_10 => ?_) (fun c_10 => ?_)
        · replace c_10 : kx ≤ ix := nn_le (by omega) (by omega) c_10
          refine g_iload_n hC dX8_response_86 4 rfl 87 rfl ?_
          refine g_istore_n hC dX8_response_87 rfl (Nat.le_of_ble_eq_true rfl) [(3, .int (nI bl)), (5, .int (nI (wN kl))), (0, .ref o), (1, .int (nI i)), (2, .int (nI (ij + wN il))), (4, .int (nI k))] rfl 88 rfl ?_
          refine g_iinc hC dX8_response_88 5 rfl (v := nI (k + 1)) (by rw [ki_1]; exact nI_a (a := k) (b := 1) (c := (k + 1)) (by omega)) (Nat.le_of_ble_eq_true rfl) [(4, .int (nI (k + 1))), (3, .int (nI bl)), (5, .int (nI (wN kl))), (0, .ref o), (1, .int (nI i)), (2, .int (nI (ij + wN il)))] rfl 91 rfl ?_
          refine g_goto hC dX8_response_91 30 rfl ?_
          refine gJ.sub (M' := M) [3, 4, 5, 1, 0] rfl ?_
          exact ih (k + 1) bl (by omega) (by omega) (by rw [show blk ev ix (k + 1) = if ix < ev (4 * k) ∧ blk ev ix k < wN (ev (4 * k + 1)) then wN (ev (4 * k + 1)) else blk ev ix k from rfl, ← kex, ← kel, ← hb]; split <;> first | rfl | omega) (by omega) hL_0 hL_1
        · replace c_10 : ix < kx := nn_nle (by omega) (by omega) c_10
          refine g_iload hC dX8_response_75 0 rfl 77 rfl ?_
          refine g_iload_n hC dX8_response_77 4 rfl 78 rfl ?_
          refine g_icmp_le hC dX8_response_78 86 rfl 81 rfl (fun c_11 => ?_) (fun c_11 => ?_)
          · replace c_11 : wN kl ≤ bl := nn_le (by omega) (by omega) c_11
            refine g_iload_n hC dX8_response_86 4 rfl 87 rfl ?_
            refine g_istore_n hC dX8_response_87 rfl (Nat.le_of_ble_eq_true rfl) [(3, .int (nI bl)), (5, .int (nI (wN kl))), (0, .ref o), (1, .int (nI i)), (2, .int (nI (ij + wN il))), (4, .int (nI k))] rfl 88 rfl ?_
            refine g_iinc hC dX8_response_88 5 rfl (v := nI (k + 1)) (by rw [ki_1]; exact nI_a (a := k) (b := 1) (c := (k + 1)) (by omega)) (Nat.le_of_ble_eq_true rfl) [(4, .int (nI (k + 1))), (3, .int (nI bl)), (5, .int (nI (wN kl))), (0, .ref o), (1, .int (nI i)), (2, .int (nI (ij + wN il)))] rfl 91 rfl ?_
            refine g_goto hC dX8_response_91 30 rfl ?_
            refine gJ.sub (M' := M) [3, 4, 5, 1, 0] rfl ?_
            exact ih (k + 1) bl (by omega) (by omega) (by rw [show blk ev ix (k + 1) = if ix < ev (4 * k) ∧ blk ev ix k < wN (ev (4 * k + 1)) then wN (ev (4 * k + 1)) else blk ev ix k from rfl, ← kex, ← kel, ← hb]; split <;> first | rfl | omega) (by omega) hL_0 hL_1
          · replace c_11 : bl < wN kl := nn_nle (by omega) (by omega) c_11
            refine g_iload hC dX8_response_81 0 rfl 83 rfl ?_
            refine g_goto hC dX8_response_83 87 rfl ?_
            refine g_istore_n hC dX8_response_87 rfl (Nat.le_of_ble_eq_true rfl) [(3, .int (nI (wN kl))), (5, .int (nI (wN kl))), (0, .ref o), (1, .int (nI i)), (2, .int (nI (ij + wN il))), (4, .int (nI k))] rfl 88 rfl ?_
            refine g_iinc hC dX8_response_88 5 rfl (v := nI (k + 1)) (by rw [ki_1]; exact nI_a (a := k) (b := 1) (c := (k + 1)) (by omega)) (Nat.le_of_ble_eq_true rfl) [(4, .int (nI (k + 1))), (3, .int (nI (wN kl))), (5, .int (nI (wN kl))), (0, .ref o), (1, .int (nI i)), (2, .int (nI (ij + wN il)))] rfl 91 rfl ?_
            refine g_goto hC dX8_response_91 30 rfl ?_
            refine gJ.sub (M' := M) [3, 4, 5, 1, 0] rfl ?_
            exact ih (k + 1) (wN kl) (by omega) (by omega) (by rw [show blk ev ix (k + 1) = if ix < ev (4 * k) ∧ blk ev ix k < wN (ev (4 * k + 1)) then wN (ev (4 * k + 1)) else blk ev ix k from rfl, ← kex, ← kel, ← hb]; split <;> first | rfl | omega) (by omega) hL_0 hL_1
  refine gJ.sub (M' := M) [3, 4, 2, 1, 0] rfl ?_
  exact loop30 _ 0 0 (by omega) (by omega) rfl (Nat.lt_succ_self _) hM_0 hM_1
set_option maxHeartbeats 4000000 in
theorem met_T_responseTime_n (l : Launch) (G : gG) (M : gM) (o : Nat) (av : Nat) (asp : Nat) (ak : Nat) (aik : Nat) (atx : Nat) (le : Int32) (am : Nat) (mc : Nat) (aa : Nat) (pl : Int32) (ato : Nat) (g : Nat → Int32) (x : Int32) (hmc : mc ≤ 8) (hno : ∀ i, i < mc → ¬ g (4 * i) = x) (hM_0 : M o = some ((1, 0), .inr (7, [.ref av, .ref asp, .ref ak, .ref aik, .ref atx, .int le, .ref am, .int (nI mc), .ref aa, .int pl, .ref ato]))) (hM_1 : M am = some ((1, 6), .inl (gcs G 0, 32, .inl g))) : Met l yX8_responseTime (ws_ yX8_responseTime cX8_responseTime 3 (some .int)) ({ frames := 1, cells := 0, slots := 0, locals := 22 }) (gPc G [.ref o, .int x] M) (gQi G (fun r9 M9 k9 => r9 = (-2) ∧ M9 = M ∧ k9 = 0)) 0 0 (gA G) := by
  refine gMet [(0, .ref o), (1, .int x)] (by decide) (Nat.le_of_ble_eq_true rfl) rfl ?_
  intro p e s m below meth c hC
  refine g_aload_n hC dX8_responseTime_0 0 rfl gRef_r 1 rfl ?_
  refine g_iload_n hC dX8_responseTime_1 1 rfl 2 rfl ?_
  refine g_calliP (g_V (As := [.int x]) (rest := []) hC mvX8_messageOf q3315 (gOf.of hC.K cI7 hM_0) (met_T_messageOf_n l G M o av asp ak aik atx le am mc aa pl ato g x hmc hno hM_0 hM_1) ⟨rfl, rfl⟩ ⟨(Nat.le_of_ble_eq_true rfl), (Nat.le_of_ble_eq_true rfl)⟩ rfl (Nat.le_of_ble_eq_true rfl) dX8_responseTime_2 rfl ⟨(Nat.le_of_ble_eq_true rfl), (Nat.le_of_ble_eq_true rfl)⟩) 5 rfl 0 (Nat.le_of_ble_eq_true rfl) ?_
  refine g_istore_n hC dX8_responseTime_5 rfl (Nat.le_of_ble_eq_true rfl) [(2, .int (-1)), (0, .ref o), (1, .int x)] rfl 6 rfl ?_
  refine g_iload_n hC dX8_responseTime_6 0 rfl 7 rfl ?_
  refine g_if_ge hC dX8_responseTime_7 15 rfl 10 rfl (fun c_1 => ?_) (fun c_1 => ?_)
  · exact absurd c_1 (by decide)
  · refine g_bipush hC dX8_responseTime_10 kb_m2 12 rfl ?_
    refine g_goto hC dX8_responseTime_12 20 rfl ?_
    exact g_iret (v := -2) hC (fun k9 hk9 => ⟨rfl, rfl, Nat.le_zero.mp hk9⟩) dX8_responseTime_20 (Nat.le_of_ble_eq_true rfl) (Nat.le_of_ble_eq_true rfl)
set_option maxHeartbeats 4000000 in
theorem met_T_responseTime (l : Launch) (G : gG) (M : gM) (o : Nat) (av : Nat) (asp : Nat) (ak : Nat) (aik : Nat) (atx : Nat) (le : Int32) (am : Nat) (mc : Nat) (aa : Nat) (pl : Int32) (ato : Nat) (g : Nat → Int32) (ev : Nat → Nat) (x : Int32) (ai : Nat) (hmc : mc ≤ 8) (hg : ∀ k, k < 4 * mc → g k = nI (ev k)) (hok : okE ev mc) (hai : ai < mc) (hax : g (4 * ai) = x) (hbf : ∀ i, i < ai → ¬ g (4 * i) = x) (hM_0 : M o = some ((1, 0), .inr (7, [.ref av, .ref asp, .ref ak, .ref aik, .ref atx, .int le, .ref am, .int (nI mc), .ref aa, .int pl, .ref ato]))) (hM_1 : M am = some ((1, 6), .inl (gcs G 0, 32, .inl g))) : Met l yX8_responseTime (ws_ yX8_responseTime cX8_responseTime 3 (some .int)) ({ frames := 2, cells := 0, slots := 0, locals := 47 }) (gPc G [.ref o, .int x] M) (gQi G (fun r9 M9 k9 => r9 = (rspT ev mc ai) ∧ M9 = M ∧ k9 = 0)) 0 0 (gA G) := by
  refine gMet [(0, .ref o), (1, .int x)] (by decide) (Nat.le_of_ble_eq_true rfl) rfl ?_
  intro p e s m below meth c hC
  refine g_aload_n hC dX8_responseTime_0 0 rfl gRef_r 1 rfl ?_
  refine g_iload_n hC dX8_responseTime_1 1 rfl 2 rfl ?_
  refine g_calliP (g_V (As := [.int x]) (rest := []) hC mvX8_messageOf q3315 (gOf.of hC.K cI7 hM_0) (met_T_messageOf l G M o av asp ak aik atx le am mc aa pl ato g x ai hmc hai hax hbf hM_0 hM_1) ⟨rfl, rfl⟩ ⟨(Nat.le_of_ble_eq_true rfl), (Nat.le_of_ble_eq_true rfl)⟩ rfl (Nat.le_of_ble_eq_true rfl) dX8_responseTime_2 rfl ⟨(Nat.le_of_ble_eq_true rfl), (Nat.le_of_ble_eq_true rfl)⟩) 5 rfl 0 (Nat.le_of_ble_eq_true rfl) ?_
  refine g_istore_n hC dX8_responseTime_5 rfl (Nat.le_of_ble_eq_true rfl) [(2, .int (nI ai)), (0, .ref o), (1, .int x)] rfl 6 rfl ?_
  refine g_iload_n hC dX8_responseTime_6 0 rfl 7 rfl ?_
  refine g_if_ge hC dX8_responseTime_7 15 rfl 10 rfl (fun c_1 => ?_) (fun c_1 => ?_)
  · replace c_1 : 0 ≤ ai := nn_le (by omega) (by omega) c_1
    refine g_aload_n hC dX8_responseTime_15 1 rfl gRef_r 16 rfl ?_
    refine g_iload_n hC dX8_responseTime_16 0 rfl 17 rfl ?_
    refine g_calliP (g_V (As := [.int (nI ai)]) (rest := []) hC mvX8_response q3327 (gOf.of hC.K cI7 hM_0) (met_T_response l G M o av asp ak aik atx le am mc aa pl ato g ai ev hmc hai hg hok hM_0 hM_1) ⟨rfl, rfl⟩ ⟨(Nat.le_of_ble_eq_true rfl), (Nat.le_of_ble_eq_true rfl)⟩ rfl (Nat.le_of_ble_eq_true rfl) dX8_responseTime_17 rfl ⟨(Nat.le_of_ble_eq_true rfl), (Nat.le_of_ble_eq_true rfl)⟩) 20 rfl 0 (Nat.le_of_ble_eq_true rfl) ?_
    exact g_iret (v := rspT ev mc ai) hC (fun k9 hk9 => ⟨rfl, rfl, Nat.le_zero.mp hk9⟩) dX8_responseTime_20 (Nat.le_of_ble_eq_true rfl) (Nat.le_of_ble_eq_true rfl)
  · replace c_1 : ai < 0 := nn_nle (by omega) (by omega) c_1
    exact absurd c_1 (Nat.not_lt_zero _)
def missT (e : Nat → Nat) (mc : Nat) : Nat → Nat
  | 0 => 0
  | j + 1 => missT e mc j + (if rspT e mc j = -5 then 1 else 0)
set_option maxHeartbeats 4000000 in
theorem met_T_misses (l : Launch) (G : gG) (M : gM) (o : Nat) (av : Nat) (asp : Nat) (ak : Nat) (aik : Nat) (atx : Nat) (le : Int32) (am : Nat) (mc : Nat) (aa : Nat) (pl : Int32) (ato : Nat) (g : Nat → Int32) (ev : Nat → Nat) (hmc : mc ≤ 8) (hg : ∀ k, k < 4 * mc → g k = nI (ev k)) (hok : okE ev mc) (hM_0 : M o = some ((1, 0), .inr (7, [.ref av, .ref asp, .ref ak, .ref aik, .ref atx, .int le, .ref am, .int (nI mc), .ref aa, .int pl, .ref ato]))) (hM_1 : M am = some ((1, 6), .inl (gcs G 0, 32, .inl g))) : Met l yX8_misses (ws_ yX8_misses cX8_misses 3 (some .int)) ({ frames := 2, cells := 0, slots := 0, locals := 47 }) (gPc G [.ref o] M) (gQi G (fun r9 M9 k9 => r9 = (nI (missT ev mc mc)) ∧ M9 = M ∧ k9 = 0)) 0 0 (gA G) := by
  refine gMet [(0, .ref o)] (by decide) (Nat.le_of_ble_eq_true rfl) rfl ?_
  intro p e s m below meth c hC
  refine g_iconst hC dX8_misses_0 ki_0 1 rfl ?_
  refine g_istore_n hC dX8_misses_1 rfl (Nat.le_of_ble_eq_true rfl) [(1, .int 0), (0, .ref o)] rfl 2 rfl ?_
  refine g_iconst hC dX8_misses_2 ki_0 3 rfl ?_
  refine g_istore_n hC dX8_misses_3 rfl (Nat.le_of_ble_eq_true rfl) [(2, .int 0), (1, .int 0), (0, .ref o)] rfl 4 rfl ?_
  have loop4 : ∀ (n9 : Nat) (i : Nat) (n : Nat), (hi : i ≤ mc) → (hnb : n ≤ i) → (hn : n = missT ev mc i) → mc - i < n9 → (M o = some ((1, 0), .inr (7, [.ref av, .ref asp, .ref ak, .ref aik, .ref atx, .int le, .ref am, .int (nI mc), .ref aa, .int pl, .ref ato]))) → (M am = some ((1, 6), .inl (gcs G 0, 32, .inl g))) → gJ p l e ({ frames := 2, cells := 0, slots := 0, locals := 47 } : Room) s m ([.ref o] : List Value).toArray below meth c G 3 (MQ below (gQi G (fun r9 M9 k9 => r9 = (nI (missT ev mc mc)) ∧ M9 = M ∧ k9 = 0)) ([.ref o] : List Value).toArray s 0 0 (gA G)) 0 0 M 4 [(0, .ref o), (1, .int (nI n)), (2, .int (nI i))] [] := by
    intro n9
    induction n9 with
    | zero => intro i n hi hnb hn hmu; exact absurd hmu (Nat.not_lt_zero _)
    | succ n9 ih =>
      intro i n hi hnb hn hmu hL_0 hL_1
      refine g_iload_n hC dX8_misses_4 2 rfl 5 rfl ?_
      refine g_aload_n hC dX8_misses_5 0 rfl gRef_r 6 rfl ?_
      refine g_get (v := .int (nI mc)) hC cI7 hL_0 7 (Nat.le_of_ble_eq_true rfl) q2949 rfl dX8_misses_6 9 rfl ?_
      refine g_icmp_ge hC dX8_misses_9 36 rfl 12 rfl (fun c_1 => ?_) (fun c_1 => ?_)
      · replace c_1 : mc ≤ i := nn_le (by omega) (by omega) c_1
        refine g_iload_n hC dX8_misses_36 1 rfl 37 rfl ?_
        exact g_iret (v := nI n) hC (fun k9 hk9 => ⟨(by rw [hn, show i = mc by omega]), rfl, Nat.le_zero.mp hk9⟩) dX8_misses_37 (Nat.le_of_ble_eq_true rfl) (Nat.le_of_ble_eq_true rfl)
      · replace c_1 : i < mc := nn_nle (by omega) (by omega) c_1
        refine g_iload_n hC dX8_misses_12 1 rfl 13 rfl ?_
        refine g_aload_n hC dX8_misses_13 0 rfl gRef_r 14 rfl ?_
        refine g_iload_n hC dX8_misses_14 2 rfl 15 rfl ?_
        refine g_calliP (g_V (As := [.int (nI i)]) (rest := [.int (nI n)]) hC mvX8_response q3327 (gOf.of hC.K cI7 hL_0) (met_T_response l G M o av asp ak aik atx le am mc aa pl ato g i ev hmc c_1 hg hok hL_0 hL_1) ⟨rfl, rfl⟩ ⟨(Nat.le_of_ble_eq_true rfl), (Nat.le_of_ble_eq_true rfl)⟩ rfl (Nat.le_of_ble_eq_true rfl) dX8_misses_15 rfl ⟨(Nat.le_of_ble_eq_true rfl), (Nat.le_of_ble_eq_true rfl)⟩) 18 rfl 0 (Nat.le_of_ble_eq_true rfl) ?_
        refine g_bipush hC dX8_misses_18 kb_m5 20 rfl ?_
        refine g_icmp_ne hC dX8_misses_20 27 rfl 23 rfl (fun c_2 => ?_) (fun c_2 => ?_)
        · refine g_iconst hC dX8_misses_27 ki_0 28 rfl ?_
          refine g_iadd hC dX8_misses_28 29 rfl ?_
          refine g_topi (y := nI n) (nI_a (a := n) (b := 0) (c := n) (by omega)) ?_
          refine g_istore_n hC dX8_misses_29 rfl (Nat.le_of_ble_eq_true rfl) [(1, .int (nI n)), (0, .ref o), (2, .int (nI i))] rfl 30 rfl ?_
          refine g_iinc hC dX8_misses_30 2 rfl (v := nI (i + 1)) (by rw [ki_1]; exact nI_a (a := i) (b := 1) (c := (i + 1)) (by omega)) (Nat.le_of_ble_eq_true rfl) [(2, .int (nI (i + 1))), (1, .int (nI n)), (0, .ref o)] rfl 33 rfl ?_
          refine g_goto hC dX8_misses_33 4 rfl ?_
          refine gJ.sub (M' := M) [2, 1, 0] rfl ?_
          exact ih (i + 1) n (by omega) (by omega) (by rw [show missT ev mc (i + 1) = missT ev mc i + (if rspT ev mc i = -5 then 1 else 0) from rfl, if_neg c_2, Nat.add_zero, ← hn]) (by omega) hL_0 hL_1
        · refine g_iconst hC dX8_misses_23 ki_1 24 rfl ?_
          refine g_goto hC dX8_misses_24 28 rfl ?_
          refine g_iadd hC dX8_misses_28 29 rfl ?_
          refine g_topi (y := nI (n + 1)) (nI_a (a := n) (b := 1) (c := (n + 1)) (by omega)) ?_
          refine g_istore_n hC dX8_misses_29 rfl (Nat.le_of_ble_eq_true rfl) [(1, .int (nI (n + 1))), (0, .ref o), (2, .int (nI i))] rfl 30 rfl ?_
          refine g_iinc hC dX8_misses_30 2 rfl (v := nI (i + 1)) (by rw [ki_1]; exact nI_a (a := i) (b := 1) (c := (i + 1)) (by omega)) (Nat.le_of_ble_eq_true rfl) [(2, .int (nI (i + 1))), (1, .int (nI (n + 1))), (0, .ref o)] rfl 33 rfl ?_
          refine g_goto hC dX8_misses_33 4 rfl ?_
          refine gJ.sub (M' := M) [2, 1, 0] rfl ?_
          exact ih (i + 1) (n + 1) (by omega) (by omega) (by rw [show missT ev mc (i + 1) = missT ev mc i + (if rspT ev mc i = -5 then 1 else 0) from rfl, if_pos c_2, ← hn]) (by omega) hL_0 hL_1
  refine gJ.sub (M' := M) [2, 1, 0] rfl ?_
  exact loop4 _ 0 0 (by omega) (by omega) rfl (Nat.lt_succ_self _) hM_0 hM_1
