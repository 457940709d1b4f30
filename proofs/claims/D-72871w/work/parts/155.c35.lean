/-! the bus: winner -/
set_option maxRecDepth 100000
theorem relN.hd {f : Nat → Int32} {k q : Nat} {x : NS} (h : relN f k q x) : ∃ V, relV f k q x V ∧ V.length = x.W.length ∧ x.W.head? = V[0]? := by
  obtain ⟨V, h⟩ := h
  obtain ⟨p, so, hp, -, le, -⟩ := h.1.2.2.1
  exact ⟨V, h, p.length_eq, pqPolls_spec 0 x.W V (by rw [← p.length_eq]; exact le) hp p so⟩
theorem bI_if (b : Bool) : (if b = true then (1 : Int32) else 0) = bI b := by cases b <;> rfl
theorem wE.key {f : Nat → Int32} {k i : Nat} {e : pqE} (h : wE f k i e) : T_key f k i = frK e.2 := by
  show 2 * f (256 * k + 5 * i + 30) + f (256 * k + 5 * i + 31) = 2 * e.2.1 + (if e.2.2.1 = true then 1 else 0)
  rw [h.1, h.2.1, bI_if]
theorem relN.key {f : Nat → Int32} {k q : Nat} {x : NS} {e : pqE} (h : relN f k q x) (he : x.W.head? = some e) : T_key f k 0 = frK e.2 := by
  obtain ⟨V, h, -, h0⟩ := h.hd
  exact (h.1.2.2.1.2.2.2.2.2.2.1 0 e (h0.symm.trans he)).key
theorem relN.p01 {f : Nat → Int32} {k q : Nat} {x : NS} (h : relN f k q x) : (f (256 * k) = 0 ↔ x.ph = 0) ∧ (f (256 * k) = 1 ↔ x.ph = 1) := by
  obtain ⟨V, h⟩ := h
  have hP := h.2.2.1
  have h10 := hP.1.2
  rw [hP.1.1]
  exact ⟨nI_eq (b := 0) (by omega) (by decide), nI_eq (b := 1) (by omega) (by decide)⟩
theorem relN.n23 {f : Nat → Int32} {k q : Nat} {x : NS} (h : relN f k q x) : f (256 * k + 23) = nI x.W.length ∧ x.W.length ≤ 4 := by
  obtain ⟨V, h⟩ := h
  have c3 := h.1.2.2.1
  have hl := c3.1.length_eq
  have h4 := c3.2.2.2.2.1
  exact ⟨by rw [c3.2.2.2.2.2.1, hl], by omega⟩
def winR (M : gM) (f : Nat → Int32) (i : Nat) (z : Int32) (br : Option pqE) : Prop := z = winI (winT f i) ∧ (br = none → winT f i = none) ∧ ∀ e, br = some e → (∃ w, winT f i = some w ∧ T_key f w 0 = frK e.2) ∧ M e.1 = some ((0, 1), .inr (8, [.int e.2.1, .int (bI e.2.2.1), .int e.2.2.2.1, .int e.2.2.2.2.1, .int e.2.2.2.2.2]))
theorem win_same {M : gM} {f : Nat → Int32} {i : Nat} {z : Int32} {br : Option pqE} (h : winR M f i z br) (hc : winT f (i + 1) = winT f i) : winR M f (i + 1) z br := by
  unfold winR at *
  rw [hc]
  exact h
theorem win_off {M : gM} {f : Nat → Int32} {i q : Nat} {z : Int32} {br : Option pqE} {x : NS} (h : winR M f i z br) (hr : relN f i q x) (hc : ¬ (¬ x.ph = 0 ∧ ¬ x.ph = 1)) : winR M f (i + 1) z br := by
  refine win_same h (if_neg (fun q => hc ⟨fun w => q.1 (hr.p01.1.mpr w), fun w => q.2.1 (hr.p01.2.mpr w)⟩))
theorem win_emp {M : gM} {f : Nat → Int32} {i q : Nat} {z : Int32} {br : Option pqE} {x : NS} (h : winR M f i z br) (hr : relN f i q x) (hc : x.W.head? = none) : winR M f (i + 1) z br := by
  refine win_same h (if_neg (fun q => q.2.2 ?_))
  have e : x.W = [] := by
    cases hw : x.W with
    | nil => rfl
    | cons a b => rw [hw] at hc; cases hc
  rw [hr.n23.1, e]
  exact Int32.le_refl _
theorem win_in {f : Nat → Int32} {i q : Nat} {x : NS} {e : pqE} (hr : relN f i q x) (hon : ¬ x.ph = 0 ∧ ¬ x.ph = 1) (he : x.W.head? = some e) : ¬ f (256 * i) = 0 ∧ ¬ f (256 * i) = 1 ∧ ¬ f (256 * i + 23) ≤ 0 := by
  refine ⟨fun w => hon.1 (hr.p01.1.mp w), fun w => hon.2 (hr.p01.2.mp w), fun w => ?_⟩
  have n := hr.n23
  rw [n.1] at w
  have := (nI_leI (b := 0) (by omega) (by decide)).mp w
  cases hw : x.W with
  | nil => rw [hw] at he; cases he
  | cons a b => rw [hw] at this; exact absurd this (by simp)
theorem win_new {M : gM} {f : Nat → Int32} {i q : Nat} {z : Int32} {x : NS} {e : pqE} (h : winR M f i z none) (hr : relN f i q x) (hon : ¬ x.ph = 0 ∧ ¬ x.ph = 1) (he : x.W.head? = some e) (hf : M e.1 = some ((0, 1), .inr (8, [.int e.2.1, .int (bI e.2.2.1), .int e.2.2.2.1, .int e.2.2.2.2.1, .int e.2.2.2.2.2]))) : winR M f (i + 1) (nI i) (some e) := by
  have e1 : winT f (i + 1) = some i := by
    show winS f i (winT f i) = _
    rw [h.2.1 rfl]
    exact if_pos (win_in hr hon he)
  unfold winR
  rw [e1]
  exact ⟨rfl, fun q => (by cases q), fun e' q => (by cases q; exact ⟨⟨i, rfl, hr.key he⟩, hf⟩)⟩
theorem win_lt {M : gM} {f : Nat → Int32} {i q : Nat} {z : Int32} {x : NS} {e e0 : pqE} (h : winR M f i z (some e0)) (hr : relN f i q x) (hon : ¬ x.ph = 0 ∧ ¬ x.ph = 1) (he : x.W.head? = some e) (hf : M e.1 = some ((0, 1), .inr (8, [.int e.2.1, .int (bI e.2.2.1), .int e.2.2.2.1, .int e.2.2.2.2.1, .int e.2.2.2.2.2]))) (hk : ¬ frK e0.2 ≤ frK e.2) : winR M f (i + 1) (nI i) (some e) := by
  obtain ⟨⟨w, w1, w2⟩, -⟩ := h.2.2 e0 rfl
  have e1 : winT f (i + 1) = some i := by
    show winS f i (winT f i) = _
    rw [w1]
    refine (if_pos (win_in hr hon he)).trans (if_pos ?_)
    rw [w2, hr.key he]
    exact Int32.not_le.mp hk
  unfold winR
  rw [e1]
  exact ⟨rfl, fun q => (by cases q), fun e' q => (by cases q; exact ⟨⟨i, rfl, hr.key he⟩, hf⟩)⟩
theorem win_ge {M : gM} {f : Nat → Int32} {i q : Nat} {z : Int32} {x : NS} {e e0 : pqE} (h : winR M f i z (some e0)) (hr : relN f i q x) (hon : ¬ x.ph = 0 ∧ ¬ x.ph = 1) (he : x.W.head? = some e) (hk : frK e0.2 ≤ frK e.2) : winR M f (i + 1) z (some e0) := by
  obtain ⟨⟨w, w1, w2⟩, -⟩ := h.2.2 e0 rfl
  refine win_same h ?_
  show winS f i (winT f i) = _
  rw [w1]
  refine (if_pos (win_in hr hon he)).trans (if_neg ?_)
  rw [w2, hr.key he]
  exact Int32.not_lt.mpr hk
theorem hd_mem {W : List pqE} {e : pqE} (h : W.head? = some e) : e ∈ W := List.mem_of_mem_head? h
set_option maxHeartbeats 4000000 in
theorem met_B_winner (l : Launch) (G : gG) (M : gM) (ta : Nat) (of : Nat) (f : Nat → Int32) (q : Nat) (hta : 2 ≤ ta ∧ ta < 9)  (hP_0 : busR M G ta of f q) : Met l yX1_winner (ws_ yX1_winner cX1_winner 5 (some .int)) ({ frames := 1, cells := 0, slots := 0, locals := 20 }) (gPc G [.ref of] M) (gQi G (fun r9 M9 k9 => r9 = (winI (winT f 4)) ∧ M9 = M ∧ k9 = 0)) 0 0 (gA G) := by
  refine gMet [(0, .ref of)] (by decide) (Nat.le_of_ble_eq_true rfl) rfl ?_
  intro p e s m below meth c hC
  refine g_bipush hC dX1_winner_0 kb_m5 2 rfl ?_
  refine g_istore_n hC dX1_winner_2 rfl (Nat.le_of_ble_eq_true rfl) [(1, .int (-5)), (0, .ref of)] rfl 3 rfl ?_
  refine g_null hC dX1_winner_3 4 rfl ?_
  refine g_astore_n hC dX1_winner_4 rfl gRef_n (Nat.le_of_ble_eq_true rfl) [(2, .null), (1, .int (-5)), (0, .ref of)] rfl 5 rfl ?_
  refine g_iconst hC dX1_winner_5 ki_0 6 rfl ?_
  refine g_istore_n hC dX1_winner_6 rfl (Nat.le_of_ble_eq_true rfl) [(3, .int 0), (2, .null), (1, .int (-5)), (0, .ref of)] rfl 7 rfl ?_
  have loop7 : ∀ (n9 : Nat) (i : Nat) (br : Option pqE) (ba : Option Nat) (z9 : Int32), (hi : i ≤ 4) → (hba : ba = br.map Prod.fst) → (hw : winR M f i z9 br) → 4 - i < n9 → (busR M G ta of f q) → gJ p l e ({ frames := 1, cells := 0, slots := 0, locals := 20 } : Room) s m ([.ref of] : List Value).toArray below meth c G 5 (MQ below (gQi G (fun r9 M9 k9 => r9 = (winI (winT f 4)) ∧ M9 = M ∧ k9 = 0)) ([.ref of] : List Value).toArray s 0 0 (gA G)) 0 0 M 7 [(0, .ref of), (1, .int z9), (2, va_rf ba), (3, .int (nI i))] [] := by
    intro n9
    induction n9 with
    | zero => intro i br ba z9 hi hba hw hmu; exact absurd hmu (Nat.not_lt_zero _)
    | succ n9 ih =>
      intro i br ba z9 hi hba hw hmu  hLp_0
      refine g_iload_n hC dX1_winner_7 3 rfl 8 rfl ?_
      refine g_iconst hC dX1_winner_8 ki_4 9 rfl ?_
      refine g_icmp_ge hC dX1_winner_9 77 rfl 12 rfl (fun c_1 => ?_) (fun c_1 => ?_)
      · replace c_1 : 4 ≤ i := nn_le (by omega) (by omega) c_1
        refine g_iload_n hC dX1_winner_77 1 rfl 78 rfl ?_
        exact g_iret (v := z9) hC (fun k9 hk9 => ⟨(by rw [hw.1, show i = 4 by omega]), rfl, Nat.le_zero.mp hk9⟩) dX1_winner_78 (Nat.le_of_ble_eq_true rfl) (Nat.le_of_ble_eq_true rfl)
      · replace c_1 : i < 4 := nn_nle (by omega) (by omega) c_1
        obtain ⟨bn_z2, bd_z2, bh_z2, nd_z2, tn_z2, pl_z2, ol_z2, rv_z2, A_z2, x_z2, b0_z2, b1_z2, hA_z2, hN_z2, hR_z2, ht_z2, hl_z2, hp_z2, hW_z2⟩ := busR.nd hLp_0 hta (show i < 4 by omega)
        obtain ⟨sa_z3, wa_z3, rc_z3, an_z3, er_z3, wq_z3, wm_z3, hO_z3, hW_z3, hA_z3, hf_z3, hl_z3⟩ := isNd.wc hN_z2
        have hph9 := (relN.ph hR_z2).2
        rcases hbr : br with _ | e0
        · refine g_lv (lv' := [(0, .ref of), (1, .int z9), (2, .null), (3, .int (nI i))]) (by rw [hba, hbr]; rfl) ?_
          rw [hbr] at hw
          refine g_aload_n hC dX1_winner_12 0 rfl gRef_r 13 rfl ?_
          refine g_get (v := .ref bn_z2) hC cI1 b0_z2 0 (Nat.le_of_ble_eq_true rfl) q469 rfl dX1_winner_13 16 rfl ?_
          refine g_iload_n hC dX1_winner_16 3 rfl 17 rfl ?_
          refine g_aldq (r := some nd_z2) hC b1_z2 4 rfl (vp_in_nI (by omega) (by omega)) ((congrArg A_z2 (nI_clamp (by omega))).trans hA_z2) dX1_winner_17 18 rfl ?_
          refine g_calliP (g_V (As := []) (rest := []) hC mvX2_isOn q2294 (gOf.of hC.K cI2 hO_z3) (met_Nd_isOn l G M nd_z2 (ta, 16 * i) of x_z2.ph x_z2.cu sa_z3 wa_z3 rc_z3 an_z3 er_z3 x_z2.g hph9 hO_z3) ⟨rfl, rfl⟩ ⟨(Nat.le_of_ble_eq_true rfl), (Nat.le_of_ble_eq_true rfl)⟩ rfl (Nat.le_of_ble_eq_true rfl) dX1_winner_18 rfl ⟨(Nat.le_of_ble_eq_true rfl), (Nat.le_of_ble_eq_true rfl)⟩) 21 rfl 0 (Nat.le_of_ble_eq_true rfl) ?_
          refine g_if_eq hC dX1_winner_21 42 rfl 24 rfl (fun c_4 => ?_) (fun c_4 => ?_)
          · replace c_4 := bId_0 c_4
            refine g_null hC dX1_winner_42 43 rfl ?_
            refine g_astore hC dX1_winner_43 gRef_n (Nat.le_of_ble_eq_true rfl) [(4, .null), (0, .ref of), (1, .int z9), (2, .null), (3, .int (nI i))] rfl 45 rfl ?_
            refine g_aload hC dX1_winner_45 0 rfl gRef_n 47 rfl ?_
            refine g_ifnull (r := none) hC dX1_winner_47 71 rfl 50 rfl (fun _ => ?_) (fun _ q => by cases q)
            refine g_iinc hC dX1_winner_71 4 rfl (v := nI (i + 1)) (by rw [ki_1]; exact nI_a (a := i) (b := 1) (c := (i + 1)) (by omega)) (Nat.le_of_ble_eq_true rfl) [(3, .int (nI (i + 1))), (4, .null), (0, .ref of), (1, .int z9), (2, .null)] rfl 74 rfl ?_
            refine g_goto hC dX1_winner_74 7 rfl ?_
            refine gJ.sub (M' := M) [2, 3, 4, 0] rfl ?_
            exact ih (i + 1) none none z9 (by omega) rfl (win_off hw hR_z2 c_4) (by omega) hLp_0
          · replace c_4 := bId_1 c_4
            rcases hhd : x_z2.W.head? with _ | e1
            · skip
              refine g_aload_n hC dX1_winner_24 0 rfl gRef_r 25 rfl ?_
              refine g_get (v := .ref bn_z2) hC cI1 b0_z2 0 (Nat.le_of_ble_eq_true rfl) q469 rfl dX1_winner_25 28 rfl ?_
              refine g_iload_n hC dX1_winner_28 3 rfl 29 rfl ?_
              refine g_aldq (r := some nd_z2) hC b1_z2 4 rfl (vp_in_nI (by omega) (by omega)) ((congrArg A_z2 (nI_clamp (by omega))).trans hA_z2) dX1_winner_29 30 rfl ?_
              refine g_getN (v := .ref wa_z3) hC cI2 hO_z3 12 (Nat.le_of_ble_eq_true rfl) q395 rfl dX1_winner_30 33 rfl ?_
              refine g_callqP (g_V (As := []) (rest := []) hC mvJ6_peek q2459 (gOf.of hC.K cI20 hW_z3) (met_PQ_peek l G M wa_z3 wq_z3 (ta, 16 * i + 2) (ta, 16 * i + 3) wm_z3 x_z2.W hW_z3 hA_z3) ⟨rfl, rfl⟩ ⟨(Nat.le_of_ble_eq_true rfl), (Nat.le_of_ble_eq_true rfl)⟩ rfl (Nat.le_of_ble_eq_true rfl) dX1_winner_33 rfl ⟨(Nat.le_of_ble_eq_true rfl), (Nat.le_of_ble_eq_true rfl)⟩) 36 rfl 0 (Nat.le_of_ble_eq_true rfl) ?_
              refine g_topv (y := .null) (by rw [hhd]; rfl) ?_
              refine g_castN hC dX1_winner_36 39 rfl ?_
              refine g_goto hC dX1_winner_39 43 rfl ?_
              refine g_astore hC dX1_winner_43 gRef_n (Nat.le_of_ble_eq_true rfl) [(4, .null), (0, .ref of), (1, .int z9), (2, .null), (3, .int (nI i))] rfl 45 rfl ?_
              refine g_aload hC dX1_winner_45 0 rfl gRef_n 47 rfl ?_
              refine g_ifnull (r := none) hC dX1_winner_47 71 rfl 50 rfl (fun _ => ?_) (fun _ q => by cases q)
              refine g_iinc hC dX1_winner_71 4 rfl (v := nI (i + 1)) (by rw [ki_1]; exact nI_a (a := i) (b := 1) (c := (i + 1)) (by omega)) (Nat.le_of_ble_eq_true rfl) [(3, .int (nI (i + 1))), (4, .null), (0, .ref of), (1, .int z9), (2, .null)] rfl 74 rfl ?_
              refine g_goto hC dX1_winner_74 7 rfl ?_
              refine gJ.sub (M' := M) [2, 3, 4, 0] rfl ?_
              exact ih (i + 1) none none z9 (by omega) rfl (win_emp hw hR_z2 hhd) (by omega) hLp_0
            · have hf1 := hf_z3 e1 (hd_mem hhd)
              refine g_aload_n hC dX1_winner_24 0 rfl gRef_r 25 rfl ?_
              refine g_get (v := .ref bn_z2) hC cI1 b0_z2 0 (Nat.le_of_ble_eq_true rfl) q469 rfl dX1_winner_25 28 rfl ?_
              refine g_iload_n hC dX1_winner_28 3 rfl 29 rfl ?_
              refine g_aldq (r := some nd_z2) hC b1_z2 4 rfl (vp_in_nI (by omega) (by omega)) ((congrArg A_z2 (nI_clamp (by omega))).trans hA_z2) dX1_winner_29 30 rfl ?_
              refine g_getN (v := .ref wa_z3) hC cI2 hO_z3 12 (Nat.le_of_ble_eq_true rfl) q395 rfl dX1_winner_30 33 rfl ?_
              refine g_callqP (g_V (As := []) (rest := []) hC mvJ6_peek q2459 (gOf.of hC.K cI20 hW_z3) (met_PQ_peek l G M wa_z3 wq_z3 (ta, 16 * i + 2) (ta, 16 * i + 3) wm_z3 x_z2.W hW_z3 hA_z3) ⟨rfl, rfl⟩ ⟨(Nat.le_of_ble_eq_true rfl), (Nat.le_of_ble_eq_true rfl)⟩ rfl (Nat.le_of_ble_eq_true rfl) dX1_winner_33 rfl ⟨(Nat.le_of_ble_eq_true rfl), (Nat.le_of_ble_eq_true rfl)⟩) 36 rfl 0 (Nat.le_of_ble_eq_true rfl) ?_
              refine g_topv (y := .ref e1.1) (by rw [hhd]; rfl) ?_
              refine g_castS hC (hC.at cI8) (gOf.of hC.K cI8 hf1) q2460 dX1_winner_36 39 rfl ?_
              refine g_goto hC dX1_winner_39 43 rfl ?_
              refine g_astore hC dX1_winner_43 gRef_r (Nat.le_of_ble_eq_true rfl) [(4, .ref e1.1), (0, .ref of), (1, .int z9), (2, .null), (3, .int (nI i))] rfl 45 rfl ?_
              refine g_aload hC dX1_winner_45 0 rfl gRef_r 47 rfl ?_
              refine g_ifnull (r := some e1.1) hC dX1_winner_47 71 rfl 50 rfl (fun q => by cases q) (fun _ _ => ?_)
              refine g_aload_n hC dX1_winner_50 3 rfl gRef_n 51 rfl ?_
              refine g_ifnull (r := none) hC dX1_winner_51 66 rfl 54 rfl (fun _ => ?_) (fun _ q => by cases q)
              refine g_aload hC dX1_winner_66 0 rfl gRef_r 68 rfl ?_
              refine g_astore_n hC dX1_winner_68 rfl gRef_r (Nat.le_of_ble_eq_true rfl) [(2, .ref e1.1), (4, .ref e1.1), (0, .ref of), (1, .int z9), (3, .int (nI i))] rfl 69 rfl ?_
              refine g_iload_n hC dX1_winner_69 4 rfl 70 rfl ?_
              refine g_istore_n hC dX1_winner_70 rfl (Nat.le_of_ble_eq_true rfl) [(1, .int (nI i)), (2, .ref e1.1), (4, .ref e1.1), (0, .ref of), (3, .int (nI i))] rfl 71 rfl ?_
              refine g_iinc hC dX1_winner_71 4 rfl (v := nI (i + 1)) (by rw [ki_1]; exact nI_a (a := i) (b := 1) (c := (i + 1)) (by omega)) (Nat.le_of_ble_eq_true rfl) [(3, .int (nI (i + 1))), (1, .int (nI i)), (2, .ref e1.1), (4, .ref e1.1), (0, .ref of)] rfl 74 rfl ?_
              refine g_goto hC dX1_winner_74 7 rfl ?_
              refine gJ.sub (M' := M) [4, 1, 2, 0] rfl ?_
              exact ih (i + 1) (some e1) (some e1.1) (nI i) (by omega) rfl (win_new hw hR_z2 c_4 hhd hf1) (by omega) hLp_0
        · refine g_lv (lv' := [(0, .ref of), (1, .int z9), (2, .ref e0.1), (3, .int (nI i))]) (by rw [hba, hbr]; rfl) ?_
          rw [hbr] at hw
          have hf0 := (hw.2.2 e0 rfl).2
          refine g_aload_n hC dX1_winner_12 0 rfl gRef_r 13 rfl ?_
          refine g_get (v := .ref bn_z2) hC cI1 b0_z2 0 (Nat.le_of_ble_eq_true rfl) q469 rfl dX1_winner_13 16 rfl ?_
          refine g_iload_n hC dX1_winner_16 3 rfl 17 rfl ?_
          refine g_aldq (r := some nd_z2) hC b1_z2 4 rfl (vp_in_nI (by omega) (by omega)) ((congrArg A_z2 (nI_clamp (by omega))).trans hA_z2) dX1_winner_17 18 rfl ?_
          refine g_calliP (g_V (As := []) (rest := []) hC mvX2_isOn q2294 (gOf.of hC.K cI2 hO_z3) (met_Nd_isOn l G M nd_z2 (ta, 16 * i) of x_z2.ph x_z2.cu sa_z3 wa_z3 rc_z3 an_z3 er_z3 x_z2.g hph9 hO_z3) ⟨rfl, rfl⟩ ⟨(Nat.le_of_ble_eq_true rfl), (Nat.le_of_ble_eq_true rfl)⟩ rfl (Nat.le_of_ble_eq_true rfl) dX1_winner_18 rfl ⟨(Nat.le_of_ble_eq_true rfl), (Nat.le_of_ble_eq_true rfl)⟩) 21 rfl 0 (Nat.le_of_ble_eq_true rfl) ?_
          refine g_if_eq hC dX1_winner_21 42 rfl 24 rfl (fun c_9 => ?_) (fun c_9 => ?_)
          · replace c_9 := bId_0 c_9
            refine g_null hC dX1_winner_42 43 rfl ?_
            refine g_astore hC dX1_winner_43 gRef_n (Nat.le_of_ble_eq_true rfl) [(4, .null), (0, .ref of), (1, .int z9), (2, .ref e0.1), (3, .int (nI i))] rfl 45 rfl ?_
            refine g_aload hC dX1_winner_45 0 rfl gRef_n 47 rfl ?_
            refine g_ifnull (r := none) hC dX1_winner_47 71 rfl 50 rfl (fun _ => ?_) (fun _ q => by cases q)
            refine g_iinc hC dX1_winner_71 4 rfl (v := nI (i + 1)) (by rw [ki_1]; exact nI_a (a := i) (b := 1) (c := (i + 1)) (by omega)) (Nat.le_of_ble_eq_true rfl) [(3, .int (nI (i + 1))), (4, .null), (0, .ref of), (1, .int z9), (2, .ref e0.1)] rfl 74 rfl ?_
            refine g_goto hC dX1_winner_74 7 rfl ?_
            refine gJ.sub (M' := M) [2, 3, 4, 0] rfl ?_
            exact ih (i + 1) (some e0) (some e0.1) z9 (by omega) rfl (win_off hw hR_z2 c_9) (by omega) hLp_0
          · replace c_9 := bId_1 c_9
            rcases hhd : x_z2.W.head? with _ | e1
            · skip
              refine g_aload_n hC dX1_winner_24 0 rfl gRef_r 25 rfl ?_
              refine g_get (v := .ref bn_z2) hC cI1 b0_z2 0 (Nat.le_of_ble_eq_true rfl) q469 rfl dX1_winner_25 28 rfl ?_
              refine g_iload_n hC dX1_winner_28 3 rfl 29 rfl ?_
              refine g_aldq (r := some nd_z2) hC b1_z2 4 rfl (vp_in_nI (by omega) (by omega)) ((congrArg A_z2 (nI_clamp (by omega))).trans hA_z2) dX1_winner_29 30 rfl ?_
              refine g_getN (v := .ref wa_z3) hC cI2 hO_z3 12 (Nat.le_of_ble_eq_true rfl) q395 rfl dX1_winner_30 33 rfl ?_
              refine g_callqP (g_V (As := []) (rest := []) hC mvJ6_peek q2459 (gOf.of hC.K cI20 hW_z3) (met_PQ_peek l G M wa_z3 wq_z3 (ta, 16 * i + 2) (ta, 16 * i + 3) wm_z3 x_z2.W hW_z3 hA_z3) ⟨rfl, rfl⟩ ⟨(Nat.le_of_ble_eq_true rfl), (Nat.le_of_ble_eq_true rfl)⟩ rfl (Nat.le_of_ble_eq_true rfl) dX1_winner_33 rfl ⟨(Nat.le_of_ble_eq_true rfl), (Nat.le_of_ble_eq_true rfl)⟩) 36 rfl 0 (Nat.le_of_ble_eq_true rfl) ?_
              refine g_topv (y := .null) (by rw [hhd]; rfl) ?_
              refine g_castN hC dX1_winner_36 39 rfl ?_
              refine g_goto hC dX1_winner_39 43 rfl ?_
              refine g_astore hC dX1_winner_43 gRef_n (Nat.le_of_ble_eq_true rfl) [(4, .null), (0, .ref of), (1, .int z9), (2, .ref e0.1), (3, .int (nI i))] rfl 45 rfl ?_
              refine g_aload hC dX1_winner_45 0 rfl gRef_n 47 rfl ?_
              refine g_ifnull (r := none) hC dX1_winner_47 71 rfl 50 rfl (fun _ => ?_) (fun _ q => by cases q)
              refine g_iinc hC dX1_winner_71 4 rfl (v := nI (i + 1)) (by rw [ki_1]; exact nI_a (a := i) (b := 1) (c := (i + 1)) (by omega)) (Nat.le_of_ble_eq_true rfl) [(3, .int (nI (i + 1))), (4, .null), (0, .ref of), (1, .int z9), (2, .ref e0.1)] rfl 74 rfl ?_
              refine g_goto hC dX1_winner_74 7 rfl ?_
              refine gJ.sub (M' := M) [2, 3, 4, 0] rfl ?_
              exact ih (i + 1) (some e0) (some e0.1) z9 (by omega) rfl (win_emp hw hR_z2 hhd) (by omega) hLp_0
            · have hf1 := hf_z3 e1 (hd_mem hhd)
              refine g_aload_n hC dX1_winner_24 0 rfl gRef_r 25 rfl ?_
              refine g_get (v := .ref bn_z2) hC cI1 b0_z2 0 (Nat.le_of_ble_eq_true rfl) q469 rfl dX1_winner_25 28 rfl ?_
              refine g_iload_n hC dX1_winner_28 3 rfl 29 rfl ?_
              refine g_aldq (r := some nd_z2) hC b1_z2 4 rfl (vp_in_nI (by omega) (by omega)) ((congrArg A_z2 (nI_clamp (by omega))).trans hA_z2) dX1_winner_29 30 rfl ?_
              refine g_getN (v := .ref wa_z3) hC cI2 hO_z3 12 (Nat.le_of_ble_eq_true rfl) q395 rfl dX1_winner_30 33 rfl ?_
              refine g_callqP (g_V (As := []) (rest := []) hC mvJ6_peek q2459 (gOf.of hC.K cI20 hW_z3) (met_PQ_peek l G M wa_z3 wq_z3 (ta, 16 * i + 2) (ta, 16 * i + 3) wm_z3 x_z2.W hW_z3 hA_z3) ⟨rfl, rfl⟩ ⟨(Nat.le_of_ble_eq_true rfl), (Nat.le_of_ble_eq_true rfl)⟩ rfl (Nat.le_of_ble_eq_true rfl) dX1_winner_33 rfl ⟨(Nat.le_of_ble_eq_true rfl), (Nat.le_of_ble_eq_true rfl)⟩) 36 rfl 0 (Nat.le_of_ble_eq_true rfl) ?_
              refine g_topv (y := .ref e1.1) (by rw [hhd]; rfl) ?_
              refine g_castS hC (hC.at cI8) (gOf.of hC.K cI8 hf1) q2460 dX1_winner_36 39 rfl ?_
              refine g_goto hC dX1_winner_39 43 rfl ?_
              refine g_astore hC dX1_winner_43 gRef_r (Nat.le_of_ble_eq_true rfl) [(4, .ref e1.1), (0, .ref of), (1, .int z9), (2, .ref e0.1), (3, .int (nI i))] rfl 45 rfl ?_
              refine g_aload hC dX1_winner_45 0 rfl gRef_r 47 rfl ?_
              refine g_ifnull (r := some e1.1) hC dX1_winner_47 71 rfl 50 rfl (fun q => by cases q) (fun _ _ => ?_)
              refine g_aload_n hC dX1_winner_50 3 rfl gRef_r 51 rfl ?_
              refine g_ifnull (r := some e0.1) hC dX1_winner_51 66 rfl 54 rfl (fun q => by cases q) (fun _ _ => ?_)
              refine g_aload hC dX1_winner_54 0 rfl gRef_r 56 rfl ?_
              refine g_calliP (g_V (As := []) (rest := []) hC mvX9_key q2461 (gOf.of hC.K cI8 hf1) (met_Fr_key l G M e1.1 (0, 1) e1.2.1 e1.2.2.1 e1.2.2.2.1 e1.2.2.2.2.1 e1.2.2.2.2.2 hf1) ⟨rfl, rfl⟩ ⟨(Nat.le_of_ble_eq_true rfl), (Nat.le_of_ble_eq_true rfl)⟩ rfl (Nat.le_of_ble_eq_true rfl) dX1_winner_56 rfl ⟨(Nat.le_of_ble_eq_true rfl), (Nat.le_of_ble_eq_true rfl)⟩) 59 rfl 0 (Nat.le_of_ble_eq_true rfl) ?_
              refine g_aload_n hC dX1_winner_59 3 rfl gRef_r 60 rfl ?_
              refine g_calliP (g_V (As := []) (rest := [.int (fr_key e1.2.1 e1.2.2.1)]) hC mvX9_key q2461 (gOf.of hC.K cI8 hf0) (met_Fr_key l G M e0.1 (0, 1) e0.2.1 e0.2.2.1 e0.2.2.2.1 e0.2.2.2.2.1 e0.2.2.2.2.2 hf0) ⟨rfl, rfl⟩ ⟨(Nat.le_of_ble_eq_true rfl), (Nat.le_of_ble_eq_true rfl)⟩ rfl (Nat.le_of_ble_eq_true rfl) dX1_winner_60 rfl ⟨(Nat.le_of_ble_eq_true rfl), (Nat.le_of_ble_eq_true rfl)⟩) 63 rfl 0 (Nat.le_of_ble_eq_true rfl) ?_
              refine g_icmp_ge hC dX1_winner_63 71 rfl 66 rfl (fun c_14 => ?_) (fun c_14 => ?_)
              · refine g_iinc hC dX1_winner_71 4 rfl (v := nI (i + 1)) (by rw [ki_1]; exact nI_a (a := i) (b := 1) (c := (i + 1)) (by omega)) (Nat.le_of_ble_eq_true rfl) [(3, .int (nI (i + 1))), (4, .ref e1.1), (0, .ref of), (1, .int z9), (2, .ref e0.1)] rfl 74 rfl ?_
                refine g_goto hC dX1_winner_74 7 rfl ?_
                refine gJ.sub (M' := M) [2, 3, 4, 0] rfl ?_
                exact ih (i + 1) (some e0) (some e0.1) z9 (by omega) rfl (win_ge hw hR_z2 c_9 hhd c_14) (by omega) hLp_0
              · refine g_aload hC dX1_winner_66 0 rfl gRef_r 68 rfl ?_
                refine g_astore_n hC dX1_winner_68 rfl gRef_r (Nat.le_of_ble_eq_true rfl) [(2, .ref e1.1), (4, .ref e1.1), (0, .ref of), (1, .int z9), (3, .int (nI i))] rfl 69 rfl ?_
                refine g_iload_n hC dX1_winner_69 4 rfl 70 rfl ?_
                refine g_istore_n hC dX1_winner_70 rfl (Nat.le_of_ble_eq_true rfl) [(1, .int (nI i)), (2, .ref e1.1), (4, .ref e1.1), (0, .ref of), (3, .int (nI i))] rfl 71 rfl ?_
                refine g_iinc hC dX1_winner_71 4 rfl (v := nI (i + 1)) (by rw [ki_1]; exact nI_a (a := i) (b := 1) (c := (i + 1)) (by omega)) (Nat.le_of_ble_eq_true rfl) [(3, .int (nI (i + 1))), (1, .int (nI i)), (2, .ref e1.1), (4, .ref e1.1), (0, .ref of)] rfl 74 rfl ?_
                refine g_goto hC dX1_winner_74 7 rfl ?_
                refine gJ.sub (M' := M) [4, 1, 2, 0] rfl ?_
                exact ih (i + 1) (some e1) (some e1.1) (nI i) (by omega) rfl (win_lt hw hR_z2 c_9 hhd hf1 c_14) (by omega) hLp_0
  refine gJ.sub (M' := M) [3, 2, 1, 0] rfl ?_
  exact loop7 _ 0 none none (-5) (by omega) rfl ⟨rfl, fun _ => rfl, fun e q => by cases q⟩ (Nat.lt_succ_self _) hP_0
