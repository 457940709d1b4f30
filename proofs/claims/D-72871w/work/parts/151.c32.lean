/-! the bus packed: busR says that the bus at 'of' (cells of group ta) is as the reference's state f has it -/
set_option maxRecDepth 100000
def isBus (M : gM) (G : gG) (ta of : Nat) (x0 x1 x2 x3 : NS) (D : List dsE) (hs : Nat → Int32) (tn : Nat) (pl ol rv : Int32) : Prop := ∃ bn bd bh n0 n1 n2 n3 : Nat, ∃ mc : Int32, M of = some ((ta, 100), .inr (1, [.ref bn, .ref bd, .ref bh, .int (nI tn), .int pl, .int ol, .int rv])) ∧ M bn = some ((ta, 101), .inl (gcs G 4, 4, .inr (.inr (.inr (.inr (va_up (va_up (va_up (va_up (fun _ => none) 0 (some n0)) 1 (some n1)) 2 (some n2)) 3 (some n3))))))) ∧ M bd = some ((ta, 102), .inr (17, [.int mc, .int (nI D.length), va_rf (llN D none), va_rf (llZ none D)])) ∧ M bh = some ((ta, 104), .inl (gcs G 1, 256, .inl hs)) ∧ lls M (ta, 103) D ∧ dss M D ∧ isNd M G ta 0 of n0 x0 ∧ isNd M G ta 1 of n1 x1 ∧ isNd M G ta 2 of n2 x2 ∧ isNd M G ta 3 of n3 x3
def busR (M : gM) (G : gG) (ta of : Nat) (f : Nat → Int32) (q : Nat) : Prop := ∃ (x0 x1 x2 x3 : NS) (D : List dsE) (hs : Nat → Int32) (tn : Nat) (pl ol rv : Int32), isBus M G ta of x0 x1 x2 x3 D hs tn pl ol rv ∧ relB f q x0 x1 x2 x3 D hs tn pl ol rv
theorem isBus.fr {M M' : gM} {G : gG} {ta of : Nat} {x0 x1 x2 x3 : NS} {D : List dsE} {hs : Nat → Int32} {tn : Nat} {pl ol rv : Int32} (h : isBus M G ta of x0 x1 x2 x3 D hs tn pl ol rv) (hF : gFr (gT (fun t => ¬ (fun t => t.1 = ta ∨ tg0 t) t)) M M') : isBus M' G ta of x0 x1 x2 x3 D hs tn pl ol rv := by
  obtain ⟨bn, bd, bh, n0, n1, n2, n3, mc, h0, h1, h2, h3, l1, l2, z0, z1, z2, z3⟩ := h
  refine ⟨bn, bd, bh, n0, n1, n2, n3, mc, hF _ _ _ h0 (fun q => q (Or.inl rfl)), hF _ _ _ h1 (fun q => q (Or.inl rfl)), hF _ _ _ h2 (fun q => q (Or.inl rfl)), hF _ _ _ h3 (fun q => q (Or.inl rfl)), l1.fr (hF.mono ?_), l2.fr (hF.mono ?_), z0.fr (hF.mono ?_), z1.fr (hF.mono ?_), z2.fr (hF.mono ?_), z3.fr (hF.mono ?_)⟩
  all_goals (intro b t q; obtain ⟨u9, v9⟩ := t; simp only [gT, tgE, tg0, ndT] at q ⊢; omega)
theorem busR.fr {M M' : gM} {G : gG} {ta of : Nat} {f : Nat → Int32} {q : Nat} (h : busR M G ta of f q) (hF : gFr (gT (fun t => ¬ (fun t => t.1 = ta ∨ tg0 t) t)) M M') : busR M' G ta of f q := by
  obtain ⟨x0, x1, x2, x3, D, hs, tn, pl, ol, rv, h1, h2⟩ := h
  exact ⟨x0, x1, x2, x3, D, hs, tn, pl, ol, rv, h1.fr hF, h2⟩
theorem relB.mono {f : Nat → Int32} {q q' : Nat} {x0 x1 x2 x3 : NS} {D : List dsE} {hs : Nat → Int32} {tn : Nat} {pl ol rv : Int32} (h : relB f q x0 x1 x2 x3 D hs tn pl ol rv) (hq : q ≤ q') : relB f q' x0 x1 x2 x3 D hs tn pl ol rv := by
  obtain ⟨⟨r0, r1, r2, r3⟩, ⟨a, b⟩, c⟩ := h
  exact ⟨⟨r0.mono hq, r1.mono hq, r2.mono hq, r3.mono hq⟩, ⟨a, by omega⟩, c⟩
theorem busR.mono {M : gM} {G : gG} {ta of : Nat} {f : Nat → Int32} {q q' : Nat} (h : busR M G ta of f q) (hq : q ≤ q') : busR M G ta of f q' := by
  obtain ⟨x0, x1, x2, x3, D, hs, tn, pl, ol, rv, h1, h2⟩ := h
  exact ⟨x0, x1, x2, x3, D, hs, tn, pl, ol, rv, h1, h2.mono hq⟩
theorem busR.ok {M : gM} {G : gG} {ta of : Nat} {f : Nat → Int32} {q : Nat} (h : busR M G ta of f q) (hq : q < 1000000) : okAll f := by
  obtain ⟨x0, x1, x2, x3, D, hs, tn, pl, ol, rv, h1, h2⟩ := h
  exact h2.ok hq
def crdF (f : Nat → Int32) : Nat := crd (nPh f 0) + crd (nPh f 1) + crd (nPh f 2) + crd (nPh f 3)
theorem crdF_le {f : Nat → Int32} : crdF f ≤ 4 := by
  unfold crdF
  have h0 := crd_le (q := nPh f 0)
  have h1 := crd_le (q := nPh f 1)
  have h2 := crd_le (q := nPh f 2)
  have h3 := crd_le (q := nPh f 3)
  omega
theorem sim_drvN {f : Nat → Int32} {k q ca pn ln : Nat} {d : frD} {x : NS} (h : relN f k q x) (hc : nCur x ca d pn ln) : nDrv x d pn ln = T_drv f k := by
  obtain ⟨V, h⟩ := h
  exact sim_drv h hc
theorem relN.s4 {f : Nat → Int32} {k q : Nat} {x : NS} (h : relN f k q x) : x.s 4 = 0 ∨ x.s 4 = 1 := by
  obtain ⟨V, h⟩ := h
  exact h.1.2.2.2.2.2.1
set_option maxHeartbeats 4000000 in
theorem met_B_step (l : Launch) (G : gG) (M : gM) (ta : Nat) (of : Nat) (f : Nat → Int32) (q : Nat) (hta : 2 ≤ ta ∧ ta < 9) (hq : q < 900000)  (hP_0 : busR M G ta of f q) : Met l yX1_step (ws_ yX1_step cX1_step 6 none) ({ frames := 11, cells := 13, slots := 61, locals := 275 }) (gPc G [.ref of] M) (gQv G (fun M9 k9 => busR M9 G ta of (T_bit f) (q + 1) ∧ gFr (gT (fun t => t.1 = ta ∨ t.1 = 9)) M M9 ∧ k9 + crdF (T_bit f) ≤ 9 + crdF f ∧ k9 ≤ 13)) 13 61 (gA G) := by
  obtain ⟨x0, x1, x2, x3, D, hs, tn, pl, ol, rv, ⟨bn, bd, bh, n0, n1, n2, n3, mc, b0, b1, b2, b3, l1, l2, z0, z1, z2, z3⟩, hR⟩ := hP_0
  obtain ⟨r0, r1, r2, r3⟩ := hR.1
  obtain ⟨ca0, d0, pn0, ln0, hc0⟩ := r0.cur
  obtain ⟨ca1, d1, pn1, ln1, hc1⟩ := r1.cur
  obtain ⟨ca2, d2, pn2, ln2, hc2⟩ := r2.cur
  obtain ⟨ca3, d3, pn3, ln3, hc3⟩ := r3.cur
  have htn : tn < 1000000 := by have := hR.2.1.2; omega
  refine gMono_v (met_B_step0 l G M of ta bn bd bh tn pl ol rv n0 n1 n2 n3 x0 x1 x2 x3 D mc hs ca0 d0 pn0 ln0 ca1 d1 pn1 ln1 ca2 d2 pn2 ln2 ca3 d3 pn3 ln3 hta hR.2.2.2.2.1.1 htn r0.ph.2 r1.ph.2 r2.ph.2 r3.ph.2 hc0 hc1 hc2 hc3 r0.s4 r1.s4 r2.s4 r3.s4 b0 b1 b2 b3 l1 l2 z0 z1 z2 z3) ?_
  intro M9 k9 ⟨y0, y1, y2, y3, m9, p0, p1, p2, p3, q1, w0, w1, w2, w3, hF, hy0, hy1, hy2, hy3, hcr, hk⟩
  have hS := sim_step (y0 := y0) (y1 := y1) (y2 := y2) (y3 := y3) hR (by omega) (sim_drvN r0 hc0) (sim_drvN r1 hc1) (sim_drvN r2 hc2) (sim_drvN r3 hc3) (nDr_cu hc0) (nDr_cu hc1) (nDr_cu hc2) (nDr_cu hc3) hy0 hy1 hy2 hy3
  have hd : dss M9 (dLeft (nI tn) D) := by
    have l3 : dss M9 D := l2.fr (hF.mono (fun b t q => by obtain ⟨u9, v9⟩ := t; simp only [gT, tgE] at q ⊢; omega))
    exact fun e he => l3 e (List.mem_filter.mp he).1
  have e0 := hS.1.1.ph.1
  have e1 := hS.1.2.1.ph.1
  have e2 := hS.1.2.2.1.ph.1
  have e3 := hS.1.2.2.2.ph.1
  refine ⟨⟨_, _, _, _, _, _, _, _, _, _, ⟨bn, bd, bh, n0, n1, n2, n3, m9, p0, p1, p2, p3, q1, hd, w0, w1, w2, w3⟩, hS⟩, hF, ?_, hk⟩
  unfold crdF
  rw [e0, e1, e2, e3, r0.ph.1, r1.ph.1, r2.ph.1, r3.ph.1]
  have g0 : ∀ (x : NS) (v : Int32), (nDr x v).ph = x.ph := fun x v => nDrvX_ph
  rw [g0, g0, g0, g0] at hcr
  exact hcr
set_option maxHeartbeats 4000000 in
theorem met_B_sent0 (l : Launch) (G : gG) (M : gM) (of : Nat) (ta : Nat) (bn : Nat) (bd : Nat) (bh : Nat) (tn : Nat) (pl : Int32) (ol : Int32) (rv : Int32) (n0 : Nat) (n1 : Nat) (n2 : Nat) (n3 : Nat) (x0 : NS) (x1 : NS) (x2 : NS) (x3 : NS) (D : List dsE) (mc : Int32) (hs : Nat → Int32) (hta : 2 ≤ ta ∧ ta < 9) (hM_0 : M of = some ((ta, 100), .inr (1, [.ref bn, .ref bd, .ref bh, .int (nI tn), .int pl, .int ol, .int rv]))) (hM_1 : M bn = some ((ta, 101), .inl (gcs G 4, 4, .inr (.inr (.inr (.inr (va_up (va_up (va_up (va_up (fun _ => none) 0 (some n0)) 1 (some n1)) 2 (some n2)) 3 (some n3)))))))) (hM_2 : M bd = some ((ta, 102), .inr (17, [.int mc, .int (nI D.length), va_rf (llN D none), va_rf (llZ none D)]))) (hM_3 : M bh = some ((ta, 104), .inl (gcs G 1, 256, .inl hs))) (hP_0 : lls M (ta, 103) D) (hP_1 : dss M D) (hP_2 : isNd M G ta 0 of n0 x0) (hP_3 : isNd M G ta 1 of n1 x1) (hP_4 : isNd M G ta 2 of n2 x2) (hP_5 : isNd M G ta 3 of n3 x3) : Met l yX1_sent (ws_ yX1_sent cX1_sent 6 (some .int)) ({ frames := 0, cells := 0, slots := 0, locals := 0 }) (gPc G [.ref of] M) (gQi G (fun r9 M9 k9 => r9 = ((((0 + x0.g 22) + x1.g 22) + x2.g 22) + x3.g 22) ∧ M9 = M ∧ k9 = 0)) 0 0 (gA G) := by
  refine gMet [(0, .ref of)] (by decide) (Nat.le_of_ble_eq_true rfl) rfl ?_
  intro p e s m below meth c hC
  refine g_iconst hC dX1_sent_0 ki_0 1 rfl ?_
  refine g_istore_n hC dX1_sent_1 rfl (Nat.le_of_ble_eq_true rfl) [(1, .int 0), (0, .ref of)] rfl 2 rfl ?_
  refine g_aload_n hC dX1_sent_2 1 rfl gRef_r 3 rfl ?_
  refine g_get (v := .ref bn) hC cI1 hM_0 0 (Nat.le_of_ble_eq_true rfl) q469 rfl dX1_sent_3 6 rfl ?_
  refine g_astore_n hC dX1_sent_6 rfl gRef_r (Nat.le_of_ble_eq_true rfl) [(2, .ref bn), (1, .int 0), (0, .ref of)] rfl 7 rfl ?_
  refine g_aload_n hC dX1_sent_7 0 rfl gRef_r 8 rfl ?_
  refine g_alen (v := nI 4) hC hM_1 4 rfl rfl dX1_sent_8 9 rfl ?_
  refine g_istore_n hC dX1_sent_9 rfl (Nat.le_of_ble_eq_true rfl) [(3, .int (nI 4)), (2, .ref bn), (1, .int 0), (0, .ref of)] rfl 10 rfl ?_
  refine g_iconst hC dX1_sent_10 ki_0 11 rfl ?_
  refine g_istore hC dX1_sent_11 (Nat.le_of_ble_eq_true rfl) [(4, .int 0), (3, .int (nI 4)), (2, .ref bn), (1, .int 0), (0, .ref of)] rfl 13 rfl ?_
  refine g_iload hC dX1_sent_13 0 rfl 15 rfl ?_
  refine g_iload_n hC dX1_sent_15 1 rfl 16 rfl ?_
  refine g_icmp_ge hC dX1_sent_16 39 rfl 19 rfl (fun c_1 => ?_) (fun c_1 => ?_)
  · exact absurd (show 4 ≤ 0 from nn_le (by omega) (by omega) c_1) (by omega)
  · replace c_1 : 0 < 4 := nn_nle (by omega) (by omega) c_1
    refine g_aload_n hC dX1_sent_19 2 rfl gRef_r 20 rfl ?_
    refine g_iload hC dX1_sent_20 0 rfl 22 rfl ?_
    refine g_aldq (r := some n0) hC hM_1 4 rfl (vp_in_nI (n := 0) (by first | decide | omega) (by first | decide | omega)) ((congrArg (va_up (va_up (va_up (va_up (fun _ => none) 0 (some n0)) 1 (some n1)) 2 (some n2)) 3 (some n3)) (nI_clamp (n := 0) (by decide))).trans rfl) dX1_sent_22 23 rfl ?_
    refine g_astore hC dX1_sent_23 gRef_r (Nat.le_of_ble_eq_true rfl) [(5, .ref n0), (4, .int 0), (3, .int (nI 4)), (2, .ref bn), (1, .int 0), (0, .ref of)] rfl 25 rfl ?_
    refine g_iload_n hC dX1_sent_25 4 rfl 26 rfl ?_
    refine g_aload hC dX1_sent_26 0 rfl gRef_r 28 rfl ?_
    obtain ⟨sa_z2, wa_z2, rc_z2, an_z2, er_z2, hO_z2⟩ := isNd.cell hP_2
    refine g_getN (v := .int (x0.g 22)) hC cI2 hO_z2 22 (Nat.le_of_ble_eq_true rfl) q415 rfl dX1_sent_28 31 rfl ?_
    refine g_iadd hC dX1_sent_31 32 rfl ?_
    refine g_istore_n hC dX1_sent_32 rfl (Nat.le_of_ble_eq_true rfl) [(1, .int (0 + (x0.g 22))), (5, .ref n0), (4, .int 0), (3, .int (nI 4)), (2, .ref bn), (0, .ref of)] rfl 33 rfl ?_
    refine g_iinc hC dX1_sent_33 2 rfl (v := 1) (by rw [ki_1]; exact nI_a (a := 0) (b := 1) (c := 1) (by omega)) (Nat.le_of_ble_eq_true rfl) [(4, .int 1), (1, .int (0 + (x0.g 22))), (5, .ref n0), (3, .int (nI 4)), (2, .ref bn), (0, .ref of)] rfl 36 rfl ?_
    refine g_goto hC dX1_sent_36 13 rfl ?_
    refine g_iload hC dX1_sent_13 0 rfl 15 rfl ?_
    refine g_iload_n hC dX1_sent_15 3 rfl 16 rfl ?_
    refine g_icmp_ge hC dX1_sent_16 39 rfl 19 rfl (fun c_3 => ?_) (fun c_3 => ?_)
    · exact absurd (show 4 ≤ 1 from nn_le (by omega) (by omega) c_3) (by omega)
    · replace c_3 : 1 < 4 := nn_nle (by omega) (by omega) c_3
      refine g_aload_n hC dX1_sent_19 4 rfl gRef_r 20 rfl ?_
      refine g_iload hC dX1_sent_20 0 rfl 22 rfl ?_
      refine g_aldq (r := some n1) hC hM_1 4 rfl (vp_in_nI (n := 1) (by first | decide | omega) (by first | decide | omega)) ((congrArg (va_up (va_up (va_up (va_up (fun _ => none) 0 (some n0)) 1 (some n1)) 2 (some n2)) 3 (some n3)) (nI_clamp (n := 1) (by decide))).trans rfl) dX1_sent_22 23 rfl ?_
      refine g_astore hC dX1_sent_23 gRef_r (Nat.le_of_ble_eq_true rfl) [(5, .ref n1), (4, .int 1), (1, .int (0 + (x0.g 22))), (3, .int (nI 4)), (2, .ref bn), (0, .ref of)] rfl 25 rfl ?_
      refine g_iload_n hC dX1_sent_25 2 rfl 26 rfl ?_
      refine g_aload hC dX1_sent_26 0 rfl gRef_r 28 rfl ?_
      obtain ⟨sa_z4, wa_z4, rc_z4, an_z4, er_z4, hO_z4⟩ := isNd.cell hP_3
      refine g_getN (v := .int (x1.g 22)) hC cI2 hO_z4 22 (Nat.le_of_ble_eq_true rfl) q415 rfl dX1_sent_28 31 rfl ?_
      refine g_iadd hC dX1_sent_31 32 rfl ?_
      refine g_istore_n hC dX1_sent_32 rfl (Nat.le_of_ble_eq_true rfl) [(1, .int ((0 + (x0.g 22)) + (x1.g 22))), (5, .ref n1), (4, .int 1), (3, .int (nI 4)), (2, .ref bn), (0, .ref of)] rfl 33 rfl ?_
      refine g_iinc hC dX1_sent_33 2 rfl (v := 2) (by rw [ki_1]; exact nI_a (a := 1) (b := 1) (c := 2) (by omega)) (Nat.le_of_ble_eq_true rfl) [(4, .int 2), (1, .int ((0 + (x0.g 22)) + (x1.g 22))), (5, .ref n1), (3, .int (nI 4)), (2, .ref bn), (0, .ref of)] rfl 36 rfl ?_
      refine g_goto hC dX1_sent_36 13 rfl ?_
      refine g_iload hC dX1_sent_13 0 rfl 15 rfl ?_
      refine g_iload_n hC dX1_sent_15 3 rfl 16 rfl ?_
      refine g_icmp_ge hC dX1_sent_16 39 rfl 19 rfl (fun c_5 => ?_) (fun c_5 => ?_)
      · exact absurd (show 4 ≤ 2 from nn_le (by omega) (by omega) c_5) (by omega)
      · replace c_5 : 2 < 4 := nn_nle (by omega) (by omega) c_5
        refine g_aload_n hC dX1_sent_19 4 rfl gRef_r 20 rfl ?_
        refine g_iload hC dX1_sent_20 0 rfl 22 rfl ?_
        refine g_aldq (r := some n2) hC hM_1 4 rfl (vp_in_nI (n := 2) (by first | decide | omega) (by first | decide | omega)) ((congrArg (va_up (va_up (va_up (va_up (fun _ => none) 0 (some n0)) 1 (some n1)) 2 (some n2)) 3 (some n3)) (nI_clamp (n := 2) (by decide))).trans rfl) dX1_sent_22 23 rfl ?_
        refine g_astore hC dX1_sent_23 gRef_r (Nat.le_of_ble_eq_true rfl) [(5, .ref n2), (4, .int 2), (1, .int ((0 + (x0.g 22)) + (x1.g 22))), (3, .int (nI 4)), (2, .ref bn), (0, .ref of)] rfl 25 rfl ?_
        refine g_iload_n hC dX1_sent_25 2 rfl 26 rfl ?_
        refine g_aload hC dX1_sent_26 0 rfl gRef_r 28 rfl ?_
        obtain ⟨sa_z6, wa_z6, rc_z6, an_z6, er_z6, hO_z6⟩ := isNd.cell hP_4
        refine g_getN (v := .int (x2.g 22)) hC cI2 hO_z6 22 (Nat.le_of_ble_eq_true rfl) q415 rfl dX1_sent_28 31 rfl ?_
        refine g_iadd hC dX1_sent_31 32 rfl ?_
        refine g_istore_n hC dX1_sent_32 rfl (Nat.le_of_ble_eq_true rfl) [(1, .int (((0 + (x0.g 22)) + (x1.g 22)) + (x2.g 22))), (5, .ref n2), (4, .int 2), (3, .int (nI 4)), (2, .ref bn), (0, .ref of)] rfl 33 rfl ?_
        refine g_iinc hC dX1_sent_33 2 rfl (v := 3) (by rw [ki_1]; exact nI_a (a := 2) (b := 1) (c := 3) (by omega)) (Nat.le_of_ble_eq_true rfl) [(4, .int 3), (1, .int (((0 + (x0.g 22)) + (x1.g 22)) + (x2.g 22))), (5, .ref n2), (3, .int (nI 4)), (2, .ref bn), (0, .ref of)] rfl 36 rfl ?_
        refine g_goto hC dX1_sent_36 13 rfl ?_
        refine g_iload hC dX1_sent_13 0 rfl 15 rfl ?_
        refine g_iload_n hC dX1_sent_15 3 rfl 16 rfl ?_
        refine g_icmp_ge hC dX1_sent_16 39 rfl 19 rfl (fun c_7 => ?_) (fun c_7 => ?_)
        · exact absurd (show 4 ≤ 3 from nn_le (by omega) (by omega) c_7) (by omega)
        · replace c_7 : 3 < 4 := nn_nle (by omega) (by omega) c_7
          refine g_aload_n hC dX1_sent_19 4 rfl gRef_r 20 rfl ?_
          refine g_iload hC dX1_sent_20 0 rfl 22 rfl ?_
          refine g_aldq (r := some n3) hC hM_1 4 rfl (vp_in_nI (n := 3) (by first | decide | omega) (by first | decide | omega)) ((congrArg (va_up (va_up (va_up (va_up (fun _ => none) 0 (some n0)) 1 (some n1)) 2 (some n2)) 3 (some n3)) (nI_clamp (n := 3) (by decide))).trans rfl) dX1_sent_22 23 rfl ?_
          refine g_astore hC dX1_sent_23 gRef_r (Nat.le_of_ble_eq_true rfl) [(5, .ref n3), (4, .int 3), (1, .int (((0 + (x0.g 22)) + (x1.g 22)) + (x2.g 22))), (3, .int (nI 4)), (2, .ref bn), (0, .ref of)] rfl 25 rfl ?_
          refine g_iload_n hC dX1_sent_25 2 rfl 26 rfl ?_
          refine g_aload hC dX1_sent_26 0 rfl gRef_r 28 rfl ?_
          obtain ⟨sa_z8, wa_z8, rc_z8, an_z8, er_z8, hO_z8⟩ := isNd.cell hP_5
          refine g_getN (v := .int (x3.g 22)) hC cI2 hO_z8 22 (Nat.le_of_ble_eq_true rfl) q415 rfl dX1_sent_28 31 rfl ?_
          refine g_iadd hC dX1_sent_31 32 rfl ?_
          refine g_istore_n hC dX1_sent_32 rfl (Nat.le_of_ble_eq_true rfl) [(1, .int ((((0 + (x0.g 22)) + (x1.g 22)) + (x2.g 22)) + (x3.g 22))), (5, .ref n3), (4, .int 3), (3, .int (nI 4)), (2, .ref bn), (0, .ref of)] rfl 33 rfl ?_
          refine g_iinc hC dX1_sent_33 2 rfl (v := 4) (by rw [ki_1]; exact nI_a (a := 3) (b := 1) (c := 4) (by omega)) (Nat.le_of_ble_eq_true rfl) [(4, .int 4), (1, .int ((((0 + (x0.g 22)) + (x1.g 22)) + (x2.g 22)) + (x3.g 22))), (5, .ref n3), (3, .int (nI 4)), (2, .ref bn), (0, .ref of)] rfl 36 rfl ?_
          refine g_goto hC dX1_sent_36 13 rfl ?_
          refine g_iload hC dX1_sent_13 0 rfl 15 rfl ?_
          refine g_iload_n hC dX1_sent_15 3 rfl 16 rfl ?_
          refine g_icmp_ge hC dX1_sent_16 39 rfl 19 rfl (fun c_9 => ?_) (fun c_9 => ?_)
          · replace c_9 : 4 ≤ 4 := nn_le (by omega) (by omega) c_9
            refine g_iload_n hC dX1_sent_39 1 rfl 40 rfl ?_
            exact g_iret (v := (((0 + (x0.g 22)) + (x1.g 22)) + (x2.g 22)) + (x3.g 22)) hC (fun k9 hk9 => ⟨(by first | rfl | (simp only [eq_true c_1, eq_true c_3, eq_true c_5, eq_true c_7, eq_true c_9, if_true, if_false, true_and, and_true, false_and, and_false, true_or, or_true, false_or, or_false, not_true_eq_false, not_false_eq_true, reduceIte, decide_true, decide_false, Bool.false_eq_true]; done) | (simp only [eq_true c_1, eq_true c_3, eq_true c_5, eq_true c_7, eq_true c_9, if_true, if_false, true_and, and_true, false_and, and_false, true_or, or_true, false_or, or_false, not_true_eq_false, not_false_eq_true, reduceIte, decide_true, decide_false, Bool.false_eq_true]; rfl) | (simp only [c_1, c_3, c_5, c_7, c_9, if_true, if_false, true_and, and_true, false_and, and_false, true_or, or_true, false_or, or_false, not_true_eq_false, not_false_eq_true, reduceIte, decide_true, decide_false, Bool.false_eq_true]; done) | (simp only []; simp only [if_true, if_false, true_and, and_true, false_and, and_false, true_or, or_true, false_or, or_false, not_true_eq_false, not_false_eq_true, reduceIte, decide_true, decide_false, Bool.false_eq_true, eq_true c_1, eq_true c_3, eq_true c_5, eq_true c_7, eq_true c_9]; done) | (simp only []; simp only [if_true, if_false, true_and, and_true, false_and, and_false, true_or, or_true, false_or, or_false, not_true_eq_false, not_false_eq_true, reduceIte, decide_true, decide_false, Bool.false_eq_true, c_1, c_3, c_5, c_7, c_9]; done) | (simp only []; simp only [if_true, if_false, true_and, and_true, false_and, and_false, true_or, or_true, false_or, or_false, not_true_eq_false, not_false_eq_true, reduceIte, decide_true, decide_false, Bool.false_eq_true, c_1, c_3, c_5, c_7, c_9]; simp only []; done) | (simp only [c_1, c_3, c_5, c_7, c_9, if_true, if_false, true_and, and_true, false_and, and_false, true_or, or_true, false_or, or_false, not_true_eq_false, not_false_eq_true, reduceIte, decide_true, decide_false, Bool.false_eq_true]; rfl) | (simp only []; simp only [if_true, if_false, true_and, and_true, false_and, and_false, true_or, or_true, false_or, or_false, not_true_eq_false, not_false_eq_true, reduceIte, decide_true, decide_false, Bool.false_eq_true, c_1, c_3, c_5, c_7, c_9]; rfl) | (simp only []; rfl) | (simp only [c_1, c_3, c_5, c_7, c_9, if_true, if_false, true_and, and_true, false_and, and_false, true_or, or_true, false_or, or_false, not_true_eq_false, not_false_eq_true, reduceIte, decide_true, decide_false, Bool.false_eq_true]; rfl) | (simp_all []; done)), rfl, Nat.le_zero.mp hk9⟩) dX1_sent_40 (Nat.le_of_ble_eq_true rfl) (Nat.le_of_ble_eq_true rfl)
          · exact absurd (show 4 < 4 from nn_nle (by omega) (by omega) c_9) (by omega)
set_option maxHeartbeats 4000000 in
theorem met_B_sent (l : Launch) (G : gG) (M : gM) (ta : Nat) (of : Nat) (f : Nat → Int32) (q : Nat) (hta : 2 ≤ ta ∧ ta < 9)  (hP_0 : busR M G ta of f q) : Met l yX1_sent (ws_ yX1_sent cX1_sent 6 (some .int)) ({ frames := 0, cells := 0, slots := 0, locals := 0 }) (gPc G [.ref of] M) (gQi G (fun r9 M9 k9 => r9 = (((f 14 + f 270) + f 526) + f 782) ∧ M9 = M ∧ k9 = 0)) 0 0 (gA G) := by
  obtain ⟨x0, x1, x2, x3, D, hs, tn, pl, ol, rv, ⟨bn, bd, bh, n0, n1, n2, n3, mc, b0, b1, b2, b3, l1, l2, z0, z1, z2, z3⟩, hR⟩ := hP_0
  obtain ⟨⟨V0, r0⟩, ⟨V1, r1⟩, ⟨V2, r2⟩, ⟨V3, r3⟩⟩ := hR.1
  have e0 : f 14 = x0.g 22 := r0.1.1.2.2.2.2.2.1.2
  have e1 : f 270 = x1.g 22 := r1.1.1.2.2.2.2.2.1.2
  have e2 : f 526 = x2.g 22 := r2.1.1.2.2.2.2.2.1.2
  have e3 : f 782 = x3.g 22 := r3.1.1.2.2.2.2.2.1.2
  have h := met_B_sent0 l G M of ta bn bd bh tn pl ol rv n0 n1 n2 n3 x0 x1 x2 x3 D mc hs hta b0 b1 b2 b3 l1 l2 z0 z1 z2 z3
  rw [Int32.zero_add, ← e0, ← e1, ← e2, ← e3] at h
  exact h
