/-! the public methods: crc -/
set_option maxRecDepth 100000
theorem crc_lays {g : Nat → Int32} {id da : Int32} {rm : Bool} {ln : Nat} (hl : ln ≤ 4) : frCrc id rm ln da = crcT (laysT g 0 id rm ln da) 0 (byF rm ln + 19) := by
  unfold frCrc
  refine (crcT_c (fun j hj => ?_)).symm
  have h := (lays_rd (F := g) (fr := 0) (id := id) (da := da) (rm := rm) hl).1 j (by omega)
  rw [h]
  unfold frBT
  rw [if_pos hj, Nat.zero_add]
set_option maxHeartbeats 4000000 in
theorem met_X_crc_n (l : Launch) (G : gG) (M : gM) (xa : Nat) (id : Int32) (rm : Bool) (ln : Int32) (da : Int32) (hf : ¬ okF id rm ln da)  : Met l yX0_crc (ws_ yX0_crc cX0_crc 5 (some .int)) ({ frames := 2, cells := 0, slots := 0, locals := 48 }) (gPc G [.ref xa, .int id, .int (bI rm), .int ln, .int da] M) (gQi G (fun r9 M9 k9 => r9 = (-2) ∧ M9 = M ∧ k9 = 0)) 0 0 (gA G) := by
  refine gMet [(0, .ref xa), (1, .int id), (2, .int (bI rm)), (3, .int ln), (4, .int da)] (by decide) (Nat.le_of_ble_eq_true rfl) rfl ?_
  intro p e s m below meth c hC
  refine g_iload_n hC dX0_crc_0 1 rfl 1 rfl ?_
  refine g_iload_n hC dX0_crc_1 2 rfl 2 rfl ?_
  refine g_iload_n hC dX0_crc_2 3 rfl 3 rfl ?_
  refine g_iload hC dX0_crc_3 4 rfl 5 rfl ?_
  refine g_calliP (g_S (As := [.int id, .int (bI rm), .int ln, .int da]) (rest := []) hC msX0_isFrame q559 (met_X_isFrame l G M id rm ln da) ⟨rfl, rfl⟩ ⟨(Nat.le_of_ble_eq_true rfl), (Nat.le_of_ble_eq_true rfl)⟩ rfl (Nat.le_of_ble_eq_true rfl) dX0_crc_5 rfl ⟨(Nat.le_of_ble_eq_true rfl), (Nat.le_of_ble_eq_true rfl)⟩) 8 rfl 0 (Nat.le_of_ble_eq_true rfl) ?_
  refine g_if_eq hC dX0_crc_8 30 rfl 11 rfl (fun c_1 => ?_) (fun c_1 => ?_)
  · replace c_1 := bId_0 c_1
    refine g_bipush hC dX0_crc_30 kb_m2 32 rfl ?_
    exact g_iret (v := -2) hC (fun k9 hk9 => ⟨rfl, rfl, Nat.le_zero.mp hk9⟩) dX0_crc_32 (Nat.le_of_ble_eq_true rfl) (Nat.le_of_ble_eq_true rfl)
  · replace c_1 := bId_1 c_1
    exact absurd c_1 hf
set_option maxHeartbeats 4000000 in
theorem met_X_frameBits_n (l : Launch) (G : gG) (M : gM) (xa : Nat) (id : Int32) (rm : Bool) (ln : Int32) (da : Int32) (hf : ¬ okF id rm ln da)  : Met l yX0_frameBits (ws_ yX0_frameBits cX0_frameBits 5 (some .int)) ({ frames := 2, cells := 0, slots := 0, locals := 48 }) (gPc G [.ref xa, .int id, .int (bI rm), .int ln, .int da] M) (gQi G (fun r9 M9 k9 => r9 = (-2) ∧ M9 = M ∧ k9 = 0)) 0 0 (gA G) := by
  refine gMet [(0, .ref xa), (1, .int id), (2, .int (bI rm)), (3, .int ln), (4, .int da)] (by decide) (Nat.le_of_ble_eq_true rfl) rfl ?_
  intro p e s m below meth c hC
  refine g_iload_n hC dX0_frameBits_0 1 rfl 1 rfl ?_
  refine g_iload_n hC dX0_frameBits_1 2 rfl 2 rfl ?_
  refine g_iload_n hC dX0_frameBits_2 3 rfl 3 rfl ?_
  refine g_iload hC dX0_frameBits_3 4 rfl 5 rfl ?_
  refine g_calliP (g_S (As := [.int id, .int (bI rm), .int ln, .int da]) (rest := []) hC msX0_isFrame q559 (met_X_isFrame l G M id rm ln da) ⟨rfl, rfl⟩ ⟨(Nat.le_of_ble_eq_true rfl), (Nat.le_of_ble_eq_true rfl)⟩ rfl (Nat.le_of_ble_eq_true rfl) dX0_frameBits_5 rfl ⟨(Nat.le_of_ble_eq_true rfl), (Nat.le_of_ble_eq_true rfl)⟩) 8 rfl 0 (Nat.le_of_ble_eq_true rfl) ?_
  refine g_if_eq hC dX0_frameBits_8 37 rfl 11 rfl (fun c_1 => ?_) (fun c_1 => ?_)
  · replace c_1 := bId_0 c_1
    refine g_bipush hC dX0_frameBits_37 kb_m2 39 rfl ?_
    exact g_iret (v := -2) hC (fun k9 hk9 => ⟨rfl, rfl, Nat.le_zero.mp hk9⟩) dX0_frameBits_39 (Nat.le_of_ble_eq_true rfl) (Nat.le_of_ble_eq_true rfl)
  · replace c_1 := bId_1 c_1
    exact absurd c_1 hf
set_option maxHeartbeats 4000000 in
theorem met_X_frameBit_n (l : Launch) (G : gG) (M : gM) (xa : Nat) (id : Int32) (rm : Bool) (ln : Int32) (da : Int32) (ix : Int32) (hf : ¬ okF id rm ln da)  : Met l yX0_frameBit (ws_ yX0_frameBit cX0_frameBit 6 (some .int)) ({ frames := 2, cells := 0, slots := 0, locals := 48 }) (gPc G [.ref xa, .int id, .int (bI rm), .int ln, .int da, .int ix] M) (gQi G (fun r9 M9 k9 => r9 = (-2) ∧ M9 = M ∧ k9 = 0)) 0 0 (gA G) := by
  refine gMet [(0, .ref xa), (1, .int id), (2, .int (bI rm)), (3, .int ln), (4, .int da), (5, .int ix)] (by decide) (Nat.le_of_ble_eq_true rfl) rfl ?_
  intro p e s m below meth c hC
  refine g_iload_n hC dX0_frameBit_0 1 rfl 1 rfl ?_
  refine g_iload_n hC dX0_frameBit_1 2 rfl 2 rfl ?_
  refine g_iload_n hC dX0_frameBit_2 3 rfl 3 rfl ?_
  refine g_iload hC dX0_frameBit_3 4 rfl 5 rfl ?_
  refine g_calliP (g_S (As := [.int id, .int (bI rm), .int ln, .int da]) (rest := []) hC msX0_isFrame q559 (met_X_isFrame l G M id rm ln da) ⟨rfl, rfl⟩ ⟨(Nat.le_of_ble_eq_true rfl), (Nat.le_of_ble_eq_true rfl)⟩ rfl (Nat.le_of_ble_eq_true rfl) dX0_frameBit_5 rfl ⟨(Nat.le_of_ble_eq_true rfl), (Nat.le_of_ble_eq_true rfl)⟩) 8 rfl 0 (Nat.le_of_ble_eq_true rfl) ?_
  refine g_if_ne hC dX0_frameBit_8 14 rfl 11 rfl (fun c_1 => ?_) (fun c_1 => ?_)
  · replace c_1 := bId_1 c_1
    exact absurd c_1 hf
  · replace c_1 := bId_0 c_1
    refine g_bipush hC dX0_frameBit_11 kb_m2 13 rfl ?_
    exact g_iret (v := -2) hC (fun k9 hk9 => ⟨rfl, rfl, Nat.le_zero.mp hk9⟩) dX0_frameBit_13 (Nat.le_of_ble_eq_true rfl) (Nat.le_of_ble_eq_true rfl)
set_option maxHeartbeats 4000000 in
theorem met_X_frameBit_0 (l : Launch) (G : gG) (M : gM) (xa : Nat) (id : Int32) (rm : Bool) (ln : Int32) (da : Int32) (ix : Int32) (hf : okF id rm ln da) (hix : ix < 0)  : Met l yX0_frameBit (ws_ yX0_frameBit cX0_frameBit 6 (some .int)) ({ frames := 2, cells := 0, slots := 0, locals := 48 }) (gPc G [.ref xa, .int id, .int (bI rm), .int ln, .int da, .int ix] M) (gQi G (fun r9 M9 k9 => r9 = (-5) ∧ M9 = M ∧ k9 = 0)) 0 0 (gA G) := by
  refine gMet [(0, .ref xa), (1, .int id), (2, .int (bI rm)), (3, .int ln), (4, .int da), (5, .int ix)] (by decide) (Nat.le_of_ble_eq_true rfl) rfl ?_
  intro p e s m below meth c hC
  refine g_iload_n hC dX0_frameBit_0 1 rfl 1 rfl ?_
  refine g_iload_n hC dX0_frameBit_1 2 rfl 2 rfl ?_
  refine g_iload_n hC dX0_frameBit_2 3 rfl 3 rfl ?_
  refine g_iload hC dX0_frameBit_3 4 rfl 5 rfl ?_
  refine g_calliP (g_S (As := [.int id, .int (bI rm), .int ln, .int da]) (rest := []) hC msX0_isFrame q559 (met_X_isFrame l G M id rm ln da) ⟨rfl, rfl⟩ ⟨(Nat.le_of_ble_eq_true rfl), (Nat.le_of_ble_eq_true rfl)⟩ rfl (Nat.le_of_ble_eq_true rfl) dX0_frameBit_5 rfl ⟨(Nat.le_of_ble_eq_true rfl), (Nat.le_of_ble_eq_true rfl)⟩) 8 rfl 0 (Nat.le_of_ble_eq_true rfl) ?_
  refine g_if_ne hC dX0_frameBit_8 14 rfl 11 rfl (fun c_1 => ?_) (fun c_1 => ?_)
  · replace c_1 := bId_1 c_1
    refine g_iload hC dX0_frameBit_14 5 rfl 16 rfl ?_
    refine g_if_ge hC dX0_frameBit_16 24 rfl 19 rfl (fun c_2 => ?_) (fun c_2 => ?_)
    · exact absurd c_2 (by first | exact Int32.not_le.mpr hix | exact Int32.not_lt.mpr hix | exact fun q => q hix)
    · refine g_bipush hC dX0_frameBit_19 kb_m5 21 rfl ?_
      refine g_goto hC dX0_frameBit_21 49 rfl ?_
      exact g_iret (v := -5) hC (fun k9 hk9 => ⟨rfl, rfl, Nat.le_zero.mp hk9⟩) dX0_frameBit_49 (Nat.le_of_ble_eq_true rfl) (Nat.le_of_ble_eq_true rfl)
  · replace c_1 := bId_0 c_1
    exact absurd hf c_1
set_option maxHeartbeats 4000000 in
theorem met_X_crc (l : Launch) (G : gG) (M : gM) (xa : Nat) (g : Nat → Int32) (id : Int32) (rm : Bool) (ln : Nat) (da : Int32) (hf : okF id rm (nI ln) da) (hln : ln ≤ 4)  : Met l yX0_crc (ws_ yX0_crc cX0_crc 5 (some .int)) ({ frames := 3, cells := 1, slots := 5, locals := 63 }) (gPc G [.ref xa, .int id, .int (bI rm), .int (nI ln), .int da] M) (gQi G (fun r9 M9 k9 => r9 = (crcT (laysT g 0 id rm ln da) 0 (byF rm ln + 19)) ∧ gFr (gL []) M M9 ∧ k9 ≤ 1)) 1 5 (gA G) := by
  refine gMet [(0, .ref xa), (1, .int id), (2, .int (bI rm)), (3, .int (nI ln)), (4, .int da)] (by decide) (Nat.le_of_ble_eq_true rfl) rfl ?_
  intro p e s m below meth c hC
  refine g_iload_n hC dX0_crc_0 1 rfl 1 rfl ?_
  refine g_iload_n hC dX0_crc_1 2 rfl 2 rfl ?_
  refine g_iload_n hC dX0_crc_2 3 rfl 3 rfl ?_
  refine g_iload hC dX0_crc_3 4 rfl 5 rfl ?_
  refine g_calliP (g_S (As := [.int id, .int (bI rm), .int (nI ln), .int da]) (rest := []) hC msX0_isFrame q559 (met_X_isFrame l G M id rm (nI ln) da) ⟨rfl, rfl⟩ ⟨(Nat.le_of_ble_eq_true rfl), (Nat.le_of_ble_eq_true rfl)⟩ rfl (Nat.le_of_ble_eq_true rfl) dX0_crc_5 rfl ⟨(Nat.le_of_ble_eq_true rfl), (Nat.le_of_ble_eq_true rfl)⟩) 8 rfl 0 (Nat.le_of_ble_eq_true rfl) ?_
  refine g_if_eq hC dX0_crc_8 30 rfl 11 rfl (fun c_1 => ?_) (fun c_1 => ?_)
  · replace c_1 := bId_0 c_1
    exact absurd hf c_1
  · replace c_1 := bId_1 c_1
    refine g_new hC cI8 q2556 q1147 q121 df8 (0, 1) (Nat.le_of_ble_eq_true rfl) (Nat.le_of_ble_eq_true rfl) 1 (Nat.le_of_ble_eq_true rfl) 5 (Nat.le_of_ble_eq_true rfl) dX0_crc_11 14 rfl (fun a2 M3 hN4 => ?_)
    refine g_dup hC dX0_crc_14 rfl 15 rfl ?_
    refine g_iload_n hC dX0_crc_15 1 rfl 16 rfl ?_
    refine g_iload_n hC dX0_crc_16 2 rfl 17 rfl ?_
    refine g_iload_n hC dX0_crc_17 3 rfl 18 rfl ?_
    refine g_iload hC dX0_crc_18 4 rfl 20 rfl ?_
    refine g_iconst hC dX0_crc_20 ki_0 21 rfl ?_
    refine g_callv (g_I (As := [.int id, .int (bI rm), .int (nI ln), .int da, .int 0]) (rest := [.ref a2]) hC miX9_init q2557 (met_Fr_init l G M3 a2 (0, 1) id rm (nI ln) da 0 hN4.2.1) ⟨rfl, rfl⟩ ⟨(Nat.le_of_ble_eq_true rfl), (Nat.le_of_ble_eq_true rfl)⟩ rfl (Nat.le_of_ble_eq_true rfl) dX0_crc_21 rfl ⟨(Nat.le_of_ble_eq_true rfl), (Nat.le_of_ble_eq_true rfl)⟩) 1 (Nat.le_of_ble_eq_true rfl) 5 (Nat.le_of_ble_eq_true rfl) 24 rfl (fun M5 k6 hp7 => ?_)
    obtain ⟨hc9, hF10, hk11⟩ := hp7
    refine g_calliP (g_V (As := []) (rest := []) hC mvX9_crc q2558 (gOf.of hC.K cI8 hc9) (met_Fr_crc l G M5 a2 (0, 1) id rm ln da 0 hln hc9) ⟨rfl, rfl⟩ ⟨(Nat.le_of_ble_eq_true rfl), (Nat.le_of_ble_eq_true rfl)⟩ rfl (Nat.le_of_ble_eq_true rfl) dX0_crc_24 rfl ⟨(Nat.le_of_ble_eq_true rfl), (Nat.le_of_ble_eq_true rfl)⟩) 27 rfl 5 (Nat.le_of_ble_eq_true rfl) ?_
    refine g_goto hC dX0_crc_27 32 rfl ?_
    exact g_iret (v := frCrc id rm ln da) hC (fun k9 hk9 => ⟨(crc_lays hln), ((gFr.refl.nw hN4).trf hF10 (fun b t e hb hn => (gno (hN4.ne (gFr.refl b t e hb hn)) gno0))), (by first | exact Nat.le_zero.mp hk9 | omega)⟩) dX0_crc_32 (Nat.le_of_ble_eq_true rfl) (Nat.le_of_ble_eq_true rfl)
