/-! TreeMap as a sorted list of keys and values -/
set_option maxRecDepth 100000
set_option maxHeartbeats 4000000 in
theorem met_TM_put1_e (l : Launch) (G : gG) (M : gM) (mp : Nat) (t0 : Nat × Nat) (cm : Nat) (mc : Int32) (ks : Option Nat) (t1 : Nat × Nat) (k0 : Nat) (k : Int32) (v0 : Nat) (hk : gBox G M k0 k) (ht : ¬ (t0.1 = t1.1 ∧ t0.2 = t1.2)) (hM_0 : M mp = some (t0, .inr (24, [.null, .null, .ref cm, .null, .int (nI 0), .int mc, .null, va_rf ks, .null]))) (hM_1 : M cm = some ((0, 5), .inr (5, []))) : Met l yJ9_put (ws_ yJ9_put cJ9_put 3 (some (.object "java/lang/Object"))) ({ frames := 15, cells := 1, slots := 6, locals := 400 }) (gPc G [.ref mp, .ref k0, .ref v0] M) (gQq G (fun r9 M9 k9 => ∃ x9 : Nat, r9 = none ∧ M9 mp = some (t0, .inr (24, [.null, .null, .ref cm, .ref x9, .int (nI 1), .int (mc + 1), .null, va_rf ks, .null])) ∧ M9 x9 = some (t1, .inr (25, [.ref k0, .ref v0, .null, .null, .null, .int 1])) ∧ gFr (gL [mp]) M M9 ∧ M x9 = none ∧ k9 ≤ 1)) 1 6 (gA G) := by
  refine gMet [(0, .ref mp), (1, .ref k0), (2, .ref v0)] (by decide) (Nat.le_of_ble_eq_true rfl) rfl ?_
  intro p e s m below meth c hC
  refine g_aload_n hC dJ9_put_0 0 rfl gRef_r 1 rfl ?_
  refine g_aload_n hC dJ9_put_1 1 rfl gRef_r 2 rfl ?_
  refine g_aload_n hC dJ9_put_2 2 rfl gRef_r 3 rfl ?_
  refine g_iconst hC dJ9_put_3 ki_1 4 rfl ?_
  refine g_callq (g_V (As := [.ref k0, .ref v0, .int 1]) (rest := []) hC mvJ9_put_2 q1004 (gOf.of hC.K cI24 hM_0) (met_TM_put_e l G M mp t0 cm mc ks t1 k0 k v0 hk ht hM_0 hM_1) ⟨rfl, rfl⟩ ⟨(Nat.le_of_ble_eq_true rfl), (Nat.le_of_ble_eq_true rfl)⟩ rfl (Nat.le_of_ble_eq_true rfl) dJ9_put_4 rfl ⟨(Nat.le_of_ble_eq_true rfl), (Nat.le_of_ble_eq_true rfl)⟩) 1 (Nat.le_of_ble_eq_true rfl) 6 (Nat.le_of_ble_eq_true rfl) 7 rfl (fun r4 M1 k2 hp3 => ?_)
  obtain ⟨x9_5, rfl, hc6, hc7, hF8, hq9, hk10⟩ := hp3
  exact g_aret (v := none) hC (by first | exact Or.inl ⟨_, rfl⟩ | exact Or.inr ⟨_, rfl⟩) (fun k9 hk9 => ⟨x9_5, rfl, hc6, hc7, (gFr.refl.trans (hF8.mono (by intro b t hb; simp at hb ⊢; first | done | (rcases hb with rfl | rfl | rfl | rfl <;> simp) | (simp [hb]; done)))), hq9, (by first | exact Nat.le_zero.mp hk9 | omega)⟩) dJ9_put_7 (Nat.le_of_ble_eq_true rfl) (Nat.le_of_ble_eq_true rfl)
set_option maxHeartbeats 4000000 in
theorem met_TM_put1_n (l : Launch) (G : gG) (M : gM) (mp : Nat) (t0 : Nat × Nat) (cm : Nat) (r : Option Nat) (n : Nat) (mc : Int32) (ks : Option Nat) (t1 : Nat × Nat) (Ns : List Nat) (kb : Nat → Nat) (vl : Nat → Nat) (lf : Nat → Option Nat) (rt : Nat → Option Nat) (pa : Nat → Option Nat) (co : Nat → Bool) (ky : Nat → Int32) (lo : Nat → Option Nat) (hi : Nat → Option Nat) (k0 : Nat) (k : Int32) (v0 : Nat) (z9 : Nat) (hI : tmI r Ns (kyR ky) lf rt pa lo hi) (hS : tmS Ns ky) (ht : ¬ (t0.1 = t1.1 ∧ t0.2 = t1.2)) (ht0 : t0.1 ≠ 0) (ht1 : t1.1 ≠ 0) (hne0 : z9 ∈ Ns) (habs : ∀ c, c ∈ Ns → ky c ≠ k) (hM_0 : M mp = some (t0, .inr (24, [.null, .null, .ref cm, va_rf r, .int (nI n), .int mc, .null, va_rf ks, .null]))) (hM_1 : M cm = some ((0, 5), .inr (5, []))) (hP_0 : tmE M t1 Ns kb vl lf rt pa co) (hP_1 : tmB M G Ns kb ky) (hP_2 : bxP M G k0 k) : Met l yJ9_put (ws_ yJ9_put cJ9_put 3 (some (.object "java/lang/Object"))) ({ frames := 15, cells := 1, slots := 6, locals := 400 }) (gPc G [.ref mp, .ref k0, .ref v0] M) (gQq G (fun r9 M9 k9 => ∃ x9 : Nat, ∃ lf1 : Nat → Option Nat, ∃ rt1 : Nat → Option Nat, ∃ pa1 : Nat → Option Nat, ∃ co1 : Nat → Bool, ∃ r1 : Option Nat, ∃ lo1 : Nat → Option Nat, ∃ hi1 : Nat → Option Nat, r9 = none ∧ M9 mp = some (t0, .inr (24, [.null, .null, .ref cm, va_rf r1, .int (nI (n + 1)), .int (mc + 1), .null, va_rf ks, .null])) ∧ tmE M9 t1 (tmIns Ns ky k x9) (va_up kb x9 k0) (va_up vl x9 v0) lf1 rt1 pa1 co1 ∧ gFr (gT (fun t => tgE t0.1 t0.2 t ∨ tgE t1.1 t1.2 t)) M M9 ∧ tmI r1 (tmIns Ns ky k x9) (kyR (va_up ky x9 k)) lf1 rt1 pa1 lo1 hi1 ∧ x9 ∉ Ns ∧ k9 ≤ 1)) 1 6 (gA G) := by
  refine gMet [(0, .ref mp), (1, .ref k0), (2, .ref v0)] (by decide) (Nat.le_of_ble_eq_true rfl) rfl ?_
  intro p e s m below meth c hC
  refine g_aload_n hC dJ9_put_0 0 rfl gRef_r 1 rfl ?_
  refine g_aload_n hC dJ9_put_1 1 rfl gRef_r 2 rfl ?_
  refine g_aload_n hC dJ9_put_2 2 rfl gRef_r 3 rfl ?_
  refine g_iconst hC dJ9_put_3 ki_1 4 rfl ?_
  refine g_callq (g_V (As := [.ref k0, .ref v0, .int 1]) (rest := []) hC mvJ9_put_2 q1004 (gOf.of hC.K cI24 hM_0) (met_TM_put_n l G M mp t0 cm r n mc ks t1 Ns kb vl lf rt pa co ky lo hi k0 k v0 z9 hI hS ht ht0 ht1 hne0 habs hM_0 hM_1 hP_0 hP_1 hP_2) ⟨rfl, rfl⟩ ⟨(Nat.le_of_ble_eq_true rfl), (Nat.le_of_ble_eq_true rfl)⟩ rfl (Nat.le_of_ble_eq_true rfl) dJ9_put_4 rfl ⟨(Nat.le_of_ble_eq_true rfl), (Nat.le_of_ble_eq_true rfl)⟩) 1 (Nat.le_of_ble_eq_true rfl) 6 (Nat.le_of_ble_eq_true rfl) 7 rfl (fun r4 M1 k2 hp3 => ?_)
  obtain ⟨x9_5, lf1_6, rt1_7, pa1_8, co1_9, r1_10, lo1_11, hi1_12, rfl, hc13, hpd14, hF15, hq16, hq17, hk18⟩ := hp3
  exact g_aret (v := none) hC (by first | exact Or.inl ⟨_, rfl⟩ | exact Or.inr ⟨_, rfl⟩) (fun k9 hk9 => ⟨x9_5, lf1_6, rt1_7, pa1_8, co1_9, r1_10, lo1_11, hi1_12, rfl, hc13, hpd14, (gFr.refl.trans (hF15.mono (fun b t h => by obtain ⟨u9, v9⟩ := t; revert h; (try simp only [ndT, tgE, gT, tgR, ndT9, tg0, Prod.mk.injEq]); first | done | omega | (simp; done) | (intro h; simp_all; done)))), hq16, hq17, (by first | exact Nat.le_zero.mp hk9 | omega)⟩) dJ9_put_7 (Nat.le_of_ble_eq_true rfl) (Nat.le_of_ble_eq_true rfl)
set_option maxHeartbeats 4000000 in
theorem met_TM_put1_r (l : Launch) (G : gG) (M : gM) (mp : Nat) (t0 : Nat × Nat) (cm : Nat) (r : Option Nat) (n : Nat) (mc : Int32) (ks : Option Nat) (t1 : Nat × Nat) (Ns : List Nat) (kb : Nat → Nat) (vl : Nat → Nat) (lf : Nat → Option Nat) (rt : Nat → Option Nat) (pa : Nat → Option Nat) (co : Nat → Bool) (ky : Nat → Int32) (lo : Nat → Option Nat) (hi : Nat → Option Nat) (k0 : Nat) (k : Int32) (v0 : Nat) (a0 : Nat) (hI : tmI r Ns (kyR ky) lf rt pa lo hi) (hS : tmS Ns ky) (ht : ¬ (t0.1 = t1.1 ∧ t0.2 = t1.2)) (ht0 : t0.1 ≠ 0) (ht1 : t1.1 ≠ 0) (ha0 : a0 ∈ Ns) (ha0k : ky a0 = k) (hM_0 : M mp = some (t0, .inr (24, [.null, .null, .ref cm, va_rf r, .int (nI n), .int mc, .null, va_rf ks, .null]))) (hM_1 : M cm = some ((0, 5), .inr (5, []))) (hP_0 : tmE M t1 Ns kb vl lf rt pa co) (hP_1 : tmB M G Ns kb ky) (hP_2 : bxP M G k0 k) : Met l yJ9_put (ws_ yJ9_put cJ9_put 3 (some (.object "java/lang/Object"))) ({ frames := 15, cells := 1, slots := 6, locals := 400 }) (gPc G [.ref mp, .ref k0, .ref v0] M) (gQq G (fun r9 M9 k9 => r9 = (some (vl a0)) ∧ M9 mp = some (t0, .inr (24, [.null, .null, .ref cm, va_rf r, .int (nI n), .int mc, .null, va_rf ks, .null])) ∧ tmE M9 t1 Ns kb (va_up vl a0 v0) lf rt pa co ∧ gFr (gT (tgE t1.1 t1.2)) M M9 ∧ k9 ≤ 1)) 1 6 (gA G) := by
  refine gMet [(0, .ref mp), (1, .ref k0), (2, .ref v0)] (by decide) (Nat.le_of_ble_eq_true rfl) rfl ?_
  intro p e s m below meth c hC
  refine g_aload_n hC dJ9_put_0 0 rfl gRef_r 1 rfl ?_
  refine g_aload_n hC dJ9_put_1 1 rfl gRef_r 2 rfl ?_
  refine g_aload_n hC dJ9_put_2 2 rfl gRef_r 3 rfl ?_
  refine g_iconst hC dJ9_put_3 ki_1 4 rfl ?_
  refine g_callq (g_V (As := [.ref k0, .ref v0, .int 1]) (rest := []) hC mvJ9_put_2 q1004 (gOf.of hC.K cI24 hM_0) (met_TM_put_r l G M mp t0 cm r n mc ks t1 Ns kb vl lf rt pa co ky lo hi k0 k v0 a0 hI hS ht ht0 ht1 ha0 ha0k hM_0 hM_1 hP_0 hP_1 hP_2) ⟨rfl, rfl⟩ ⟨(Nat.le_of_ble_eq_true rfl), (Nat.le_of_ble_eq_true rfl)⟩ rfl (Nat.le_of_ble_eq_true rfl) dJ9_put_4 rfl ⟨(Nat.le_of_ble_eq_true rfl), (Nat.le_of_ble_eq_true rfl)⟩) 1 (Nat.le_of_ble_eq_true rfl) 6 (Nat.le_of_ble_eq_true rfl) 7 rfl (fun r4 M1 k2 hp3 => ?_)
  obtain ⟨rfl, hc5, hpd6, hF7, hk8⟩ := hp3
  exact g_aret (v := some (vl a0)) hC (by first | exact Or.inl ⟨_, rfl⟩ | exact Or.inr ⟨_, rfl⟩) (fun k9 hk9 => ⟨rfl, hc5, hpd6, (gFr.refl.trans (hF7.mono (fun b t h => by obtain ⟨u9, v9⟩ := t; revert h; (try simp only [ndT, tgE, gT, tgR, ndT9, tg0, Prod.mk.injEq]); first | done | omega | (simp; done) | (intro h; simp_all; done)))), (by first | exact Nat.le_zero.mp hk9 | omega)⟩) dJ9_put_7 (Nat.le_of_ble_eq_true rfl) (Nat.le_of_ble_eq_true rfl)
set_option maxHeartbeats 4000000 in
theorem met_TM_remove1 (l : Launch) (G : gG) (M : gM) (mp : Nat) (t0 : Nat × Nat) (cm : Nat) (r : Option Nat) (n : Nat) (mc : Int32) (ks : Option Nat) (t1 : Nat × Nat) (Ns : List Nat) (kb : Nat → Nat) (vl : Nat → Nat) (lf : Nat → Option Nat) (rt : Nat → Option Nat) (pa : Nat → Option Nat) (co : Nat → Bool) (ky : Nat → Int32) (lo : Nat → Option Nat) (hi : Nat → Option Nat) (k0 : Nat) (k : Int32) (a0 : Nat) (hI : tmI r Ns (kyR ky) lf rt pa lo hi) (hS : tmS Ns ky) (hk : gBox G M k0 k) (ht : ¬ (t0.1 = t1.1 ∧ t0.2 = t1.2)) (ht0 : t0.1 ≠ 0) (ht1 : t1.1 ≠ 0) (ha0 : a0 ∈ Ns) (hf0 : tmF Ns ky k = some a0) (hM_0 : M mp = some (t0, .inr (24, [.null, .null, .ref cm, va_rf r, .int (nI (n + 1)), .int mc, .null, va_rf ks, .null]))) (hM_1 : M cm = some ((0, 5), .inr (5, []))) (hP_0 : tmE M t1 Ns kb vl lf rt pa co) (hP_1 : tmB M G Ns kb ky) : Met l yJ9_remove (ws_ yJ9_remove cJ9_remove 4 (some (.object "java/lang/Object"))) ({ frames := 5, cells := 0, slots := 0, locals := 114 }) (gPc G [.ref mp, .ref k0] M) (gQq G (fun r9 M9 k9 => ∃ pd : Nat, ∃ kb1 : Nat → Nat, ∃ vl1 : Nat → Nat, ∃ lf1 : Nat → Option Nat, ∃ rt1 : Nat → Option Nat, ∃ pa1 : Nat → Option Nat, ∃ co1 : Nat → Bool, ∃ r1 : Option Nat, ∃ lo1 : Nat → Option Nat, ∃ hi1 : Nat → Option Nat, r9 = (some (vl a0)) ∧ M9 mp = some (t0, .inr (24, [.null, .null, .ref cm, va_rf r1, .int (nI n), .int (mc + 1), .null, va_rf ks, .null])) ∧ tmE M9 t1 (wo Ns pd) kb1 vl1 lf1 rt1 pa1 co1 ∧ gFr (gT (fun t => tgE t0.1 t0.2 t ∨ tgE t1.1 t1.2 t)) M M9 ∧ tmI r1 (wo Ns pd) (kyR ky) lf1 rt1 pa1 lo1 hi1 ∧ delK Ns ky kb vl a0 pd kb1 vl1 ∧ pd ∈ Ns ∧ k9 = 0)) 0 0 (gA G) := by
  refine gMet [(0, .ref mp), (1, .ref k0)] (by decide) (Nat.le_of_ble_eq_true rfl) rfl ?_
  intro p e s m below meth c hC
  refine g_aload_n hC dJ9_remove_0 0 rfl gRef_r 1 rfl ?_
  refine g_aload_n hC dJ9_remove_1 1 rfl gRef_r 2 rfl ?_
  refine g_callqP (g_V (As := [.ref k0]) (rest := []) hC mvJ9_getEntry q594 (gOf.of hC.K cI24 hM_0) (met_TM_getEntry l G M mp t0 cm r (n + 1) mc ks t1 Ns kb vl lf rt pa co ky lo hi k0 k hI hS hk hM_0 hM_1 hP_0 hP_1) ⟨rfl, rfl⟩ ⟨(Nat.le_of_ble_eq_true rfl), (Nat.le_of_ble_eq_true rfl)⟩ rfl (Nat.le_of_ble_eq_true rfl) dJ9_remove_2 rfl ⟨(Nat.le_of_ble_eq_true rfl), (Nat.le_of_ble_eq_true rfl)⟩) 5 rfl 0 (Nat.le_of_ble_eq_true rfl) ?_
  refine g_astore_n hC dJ9_remove_5 rfl gRef_q (Nat.le_of_ble_eq_true rfl) [(2, va_rf (tmF Ns ky k)), (0, .ref mp), (1, .ref k0)] rfl 6 rfl ?_
  refine g_aload_n hC dJ9_remove_6 0 rfl gRef_q 7 rfl ?_
  refine g_ifnonnull hC dJ9_remove_7 12 rfl 10 rfl (fun x_1 e_2 => ?_) (fun e_2 => ?_)
  · refine g_lv (lv' := [(2, .ref x_1), (0, .ref mp), (1, .ref k0)]) (by rw [e_2]; rfl) ?_
    have hxe : x_1 = a0 := Option.some.inj (e_2.symm.trans hf0)
    subst hxe
    refine g_aload_n hC dJ9_remove_12 0 rfl gRef_r 13 rfl ?_
    refine g_get (v := .ref (vl x_1)) hC cI25 (hP_0 x_1 ha0) 1 (Nat.le_of_ble_eq_true rfl) q1026 rfl dJ9_remove_13 16 rfl ?_
    refine g_astore_n hC dJ9_remove_16 rfl gRef_r (Nat.le_of_ble_eq_true rfl) [(3, .ref (vl x_1)), (2, .ref x_1), (0, .ref mp), (1, .ref k0)] rfl 17 rfl ?_
    refine g_aload_n hC dJ9_remove_17 2 rfl gRef_r 18 rfl ?_
    refine g_aload_n hC dJ9_remove_18 1 rfl gRef_r 19 rfl ?_
    refine g_callv (g_V (As := [.ref x_1]) (rest := []) hC mvJ9_deleteEntry q1087 (gOf.of hC.K cI24 hM_0) (met_TM_delete l G M mp t0 cm r n mc ks t1 Ns kb vl lf rt pa co ky lo hi x_1 hI hS ha0 ht ht0 ht1 hM_0 hP_0) ⟨rfl, rfl⟩ ⟨(Nat.le_of_ble_eq_true rfl), (Nat.le_of_ble_eq_true rfl)⟩ rfl (Nat.le_of_ble_eq_true rfl) dJ9_remove_19 rfl ⟨(Nat.le_of_ble_eq_true rfl), (Nat.le_of_ble_eq_true rfl)⟩) 0 (Nat.le_of_ble_eq_true rfl) 0 (Nat.le_of_ble_eq_true rfl) 22 rfl (fun M3 k4 hp5 => ?_)
    obtain ⟨pd_7, kb1_8, vl1_9, lf1_10, rt1_11, pa1_12, co1_13, r1_14, lo1_15, hi1_16, hc17, hpd18, hF19, hq20, hq21, hq22, hk23⟩ := hp5
    refine g_aload_n hC dJ9_remove_22 0 rfl gRef_r 23 rfl ?_
    exact g_aret (v := some (vl x_1)) hC (by first | exact Or.inl ⟨_, rfl⟩ | exact Or.inr ⟨_, rfl⟩) (fun k9 hk9 => ⟨pd_7, kb1_8, vl1_9, lf1_10, rt1_11, pa1_12, co1_13, r1_14, lo1_15, hi1_16, rfl, hc17, hpd18, (gFr.refl.trans (hF19.mono (fun b t h => by obtain ⟨u9, v9⟩ := t; revert h; (try simp only [ndT, tgE, gT, tgR, ndT9, tg0, Prod.mk.injEq]); first | done | omega | (simp; done) | (intro h; simp_all; done)))), hq20, hq21, hq22, (by first | exact Nat.le_zero.mp hk9 | omega)⟩) dJ9_remove_23 (Nat.le_of_ble_eq_true rfl) (Nat.le_of_ble_eq_true rfl)
  · refine g_lv (lv' := [(2, .null), (0, .ref mp), (1, .ref k0)]) (by rw [e_2]; rfl) ?_
    exact absurd (e_2.symm.trans hf0) (by simp)
set_option maxHeartbeats 4000000 in
theorem met_TM_remove0 (l : Launch) (G : gG) (M : gM) (mp : Nat) (t0 : Nat × Nat) (cm : Nat) (r : Option Nat) (n : Nat) (mc : Int32) (ks : Option Nat) (t1 : Nat × Nat) (Ns : List Nat) (kb : Nat → Nat) (vl : Nat → Nat) (lf : Nat → Option Nat) (rt : Nat → Option Nat) (pa : Nat → Option Nat) (co : Nat → Bool) (ky : Nat → Int32) (lo : Nat → Option Nat) (hi : Nat → Option Nat) (k0 : Nat) (k : Int32) (hI : tmI r Ns (kyR ky) lf rt pa lo hi) (hS : tmS Ns ky) (hk : gBox G M k0 k) (hf0 : tmF Ns ky k = none) (hM_0 : M mp = some (t0, .inr (24, [.null, .null, .ref cm, va_rf r, .int (nI n), .int mc, .null, va_rf ks, .null]))) (hM_1 : M cm = some ((0, 5), .inr (5, []))) (hP_0 : tmE M t1 Ns kb vl lf rt pa co) (hP_1 : tmB M G Ns kb ky) : Met l yJ9_remove (ws_ yJ9_remove cJ9_remove 4 (some (.object "java/lang/Object"))) ({ frames := 5, cells := 0, slots := 0, locals := 114 }) (gPc G [.ref mp, .ref k0] M) (gQq G (fun r9 M9 k9 => r9 = none ∧ M9 = M ∧ k9 = 0)) 0 0 (gA G) := by
  refine gMet [(0, .ref mp), (1, .ref k0)] (by decide) (Nat.le_of_ble_eq_true rfl) rfl ?_
  intro p e s m below meth c hC
  refine g_aload_n hC dJ9_remove_0 0 rfl gRef_r 1 rfl ?_
  refine g_aload_n hC dJ9_remove_1 1 rfl gRef_r 2 rfl ?_
  refine g_callqP (g_V (As := [.ref k0]) (rest := []) hC mvJ9_getEntry q594 (gOf.of hC.K cI24 hM_0) (met_TM_getEntry l G M mp t0 cm r n mc ks t1 Ns kb vl lf rt pa co ky lo hi k0 k hI hS hk hM_0 hM_1 hP_0 hP_1) ⟨rfl, rfl⟩ ⟨(Nat.le_of_ble_eq_true rfl), (Nat.le_of_ble_eq_true rfl)⟩ rfl (Nat.le_of_ble_eq_true rfl) dJ9_remove_2 rfl ⟨(Nat.le_of_ble_eq_true rfl), (Nat.le_of_ble_eq_true rfl)⟩) 5 rfl 0 (Nat.le_of_ble_eq_true rfl) ?_
  refine g_astore_n hC dJ9_remove_5 rfl gRef_q (Nat.le_of_ble_eq_true rfl) [(2, va_rf (tmF Ns ky k)), (0, .ref mp), (1, .ref k0)] rfl 6 rfl ?_
  refine g_aload_n hC dJ9_remove_6 0 rfl gRef_q 7 rfl ?_
  refine g_ifnonnull hC dJ9_remove_7 12 rfl 10 rfl (fun x_1 e_2 => ?_) (fun e_2 => ?_)
  · refine g_lv (lv' := [(2, .ref x_1), (0, .ref mp), (1, .ref k0)]) (by rw [e_2]; rfl) ?_
    exact absurd (e_2.symm.trans hf0) (by simp)
  · refine g_lv (lv' := [(2, .null), (0, .ref mp), (1, .ref k0)]) (by rw [e_2]; rfl) ?_
    refine g_null hC dJ9_remove_10 11 rfl ?_
    exact g_aret (v := none) hC (by first | exact Or.inl ⟨_, rfl⟩ | exact Or.inr ⟨_, rfl⟩) (fun k9 hk9 => ⟨rfl, rfl, Nat.le_zero.mp hk9⟩) dJ9_remove_11 (Nat.le_of_ble_eq_true rfl) (Nat.le_of_ble_eq_true rfl)
set_option maxHeartbeats 4000000 in
theorem met_TM_size0 (l : Launch) (G : gG) (M : gM) (mp : Nat) (t0 : Nat × Nat) (cm : Nat) (r : Option Nat) (n : Nat) (mc : Int32) (ks : Option Nat)  (hM_0 : M mp = some (t0, .inr (24, [.null, .null, .ref cm, va_rf r, .int (nI n), .int mc, .null, va_rf ks, .null]))) : Met l yJ9_size (ws_ yJ9_size cJ9_size 1 (some .int)) ({ frames := 0, cells := 0, slots := 0, locals := 0 }) (gPc G [.ref mp] M) (gQi G (fun r9 M9 k9 => r9 = (nI n) ∧ M9 = M ∧ k9 = 0)) 0 0 (gA G) := by
  refine gMet [(0, .ref mp)] (by decide) (Nat.le_of_ble_eq_true rfl) rfl ?_
  intro p e s m below meth c hC
  refine g_aload_n hC dJ9_size_0 0 rfl gRef_r 1 rfl ?_
  refine g_get (v := .int (nI n)) hC cI24 hM_0 4 (Nat.le_of_ble_eq_true rfl) q344 rfl dJ9_size_1 4 rfl ?_
  exact g_iret (v := nI n) hC (fun k9 hk9 => ⟨rfl, rfl, Nat.le_zero.mp hk9⟩) dJ9_size_4 (Nat.le_of_ble_eq_true rfl) (Nat.le_of_ble_eq_true rfl)
set_option maxHeartbeats 4000000 in
theorem met_TM_init0 (l : Launch) (G : gG) (M : gM) (mp : Nat) (t0 : Nat × Nat) (cm : Nat)  (hM_0 : M mp = some (t0, .inr (24, [.null, .null, .null, .null, .int 0, .int 0, .null, .null, .null]))) : Met l yJ9_init (ws_ yJ9_init cJ9_init 2 none) ({ frames := 2, cells := 0, slots := 0, locals := 32 }) (gPc G [.ref mp, .ref cm] M) (gQv G (fun M9 k9 => M9 mp = some (t0, .inr (24, [.null, .null, .ref cm, .null, .int 0, .int 0, .null, .null, .null])) ∧ gFr (gL [mp]) M M9 ∧ k9 = 0)) 0 0 (gA G) := by
  refine gMet [(0, .ref mp), (1, .ref cm)] (by decide) (Nat.le_of_ble_eq_true rfl) rfl ?_
  intro p e s m below meth c hC
  refine g_aload_n hC dJ9_init_0 0 rfl gRef_r 1 rfl ?_
  refine g_callvP (g_I (As := []) (rest := []) hC miJ8_init q338 (met_J8_init l G M mp) ⟨rfl, rfl⟩ ⟨(Nat.le_of_ble_eq_true rfl), (Nat.le_of_ble_eq_true rfl)⟩ rfl (Nat.le_of_ble_eq_true rfl) dJ9_init_1 rfl ⟨(Nat.le_of_ble_eq_true rfl), (Nat.le_of_ble_eq_true rfl)⟩) 4 rfl 0 (Nat.le_of_ble_eq_true rfl) ?_
  refine g_aload_n hC dJ9_init_4 0 rfl gRef_r 5 rfl ?_
  refine g_iconst hC dJ9_init_5 ki_0 6 rfl ?_
  refine g_put hC cI24 hM_0 4 (Nat.le_of_ble_eq_true rfl) q344 rfl rfl rfl (Nat.le_of_ble_eq_true rfl) dJ9_init_6 (fs' := [.null, .null, .null, .null, .int 0, .int 0, .null, .null, .null]) rfl 9 rfl (fun M1 hU2 => ?_)
  refine g_aload_n hC dJ9_init_9 0 rfl gRef_r 10 rfl ?_
  refine g_iconst hC dJ9_init_10 ki_0 11 rfl ?_
  refine g_put hC cI24 hU2.1 5 (Nat.le_of_ble_eq_true rfl) q346 rfl rfl rfl (Nat.le_of_ble_eq_true rfl) dJ9_init_11 (fs' := [.null, .null, .null, .null, .int 0, .int 0, .null, .null, .null]) rfl 14 rfl (fun M3 hU4 => ?_)
  refine g_aload_n hC dJ9_init_14 0 rfl gRef_r 15 rfl ?_
  refine g_aload_n hC dJ9_init_15 1 rfl gRef_r 16 rfl ?_
  refine g_putF hC cI24 hU4.1 2 (Nat.le_of_ble_eq_true rfl) q342 rfl rfl rfl rfl (Nat.le_of_ble_eq_true rfl) dJ9_init_16 (fs' := [.null, .null, .ref cm, .null, .int 0, .int 0, .null, .null, .null]) rfl 19 rfl (fun M5 hU6 => ?_)
  exact g_vret hC (fun k9 hk9 => ⟨hU6.1, (((gFr.refl.up hU2 hM_0 (by simp)).up hU4 hU2.1 (by simp)).up hU6 hU4.1 (by simp)), (by first | exact Nat.le_zero.mp hk9 | omega)⟩) dJ9_init_19 (Nat.le_of_ble_eq_true rfl) (Nat.le_of_ble_eq_true rfl)
def isTM (M : gM) (G : gG) (t0 t1 : Nat × Nat) (mp : Nat) (C : List (Int32 × Nat)) : Prop :=
  ∃ (cm : Nat) (r : Option Nat) (mc : Int32) (ks : Option Nat) (Ns : List Nat) (kb vl : Nat → Nat) (ky : Nat → Int32) (lf rt pa : Nat → Option Nat) (co : Nat → Bool) (lo hi : Nat → Option Nat), M mp = some (t0, .inr (24, [.null, .null, .ref cm, va_rf r, .int (nI Ns.length), .int mc, .null, va_rf ks, .null])) ∧ M cm = some ((0, 5), .inr (5, [])) ∧ (∀ a, ks = some a → M a = some ((0, 6), .inr (26, [.ref mp]))) ∧ tmE M t1 Ns kb vl lf rt pa co ∧ tmB M G Ns kb ky ∧ tmI r Ns (kyR ky) lf rt pa lo hi ∧ tmS Ns ky ∧ C = Ns.map (fun a => (ky a, vl a))
theorem isTM.fr {M M' : gM} {G : gG} {t0 t1 : Nat × Nat} {mp : Nat} {C : List (Int32 × Nat)} (h : isTM M G t0 t1 mp C) (hF : gFr (gT (fun t => ¬ (fun t => tgE t0.1 t0.2 t ∨ tgE t1.1 t1.2 t ∨ tg0 t) t)) M M') : isTM M' G t0 t1 mp C := by
  obtain ⟨cm, r, mc, ks, Ns, kb, vl, ky, lf, rt, pa, co, lo, hi, h1, h2, h3, h4, h5, h6, h7, h8⟩ := h
  exact ⟨cm, r, mc, ks, Ns, kb, vl, ky, lf, rt, pa, co, lo, hi, hF _ _ _ h1 (fun q => q (Or.inl ⟨rfl, rfl⟩)), hF _ _ _ h2 (fun q => q (Or.inr (Or.inr rfl))), fun a ha => hF _ _ _ (h3 a ha) (fun q => q (Or.inr (Or.inr rfl))), h4.fr (hF.mono (fun _ t q z => q (Or.inr (Or.inl z)))), h5.fr (hF.mono (fun _ t q z => q (Or.inr (Or.inr z)))), h6, h7, h8⟩
theorem tget_map {Ns : List Nat} {ky : Nat → Int32} {vl : Nat → Nat} {k : Int32} : (tmF Ns ky k).map vl = tget (Ns.map (fun a => (ky a, vl a))) k := by
  unfold tmF tget
  rw [List.find?_map]
  cases h : Ns.find? (fun a => decide (ky a = k)) with
  | none => rw [show (Ns.find? ((fun e : Int32 × Nat => decide (e.1 = k)) ∘ fun a => (ky a, vl a))) = none from h]; rfl
  | some a => rw [show (Ns.find? ((fun e : Int32 × Nat => decide (e.1 = k)) ∘ fun a => (ky a, vl a))) = some a from h]; rfl
theorem fr_t01 {t0 t1 : Nat × Nat} (h0 : t0.1 ≠ 0) (h1 : t1.1 ≠ 0) {M M' : gM} (hF : gFr (gT (fun t => tgE t0.1 t0.2 t ∨ tgE t1.1 t1.2 t)) M M') : gFr (gT (fun t => ¬ tg0 t)) M M' := hF.mono (fun _ t q z => by rcases q with q | q; exact h0 (q.1.symm.trans z); exact h1 (q.1.symm.trans z))
set_option maxHeartbeats 4000000 in
theorem met_TMap_get (l : Launch) (G : gG) (M : gM) (mp : Nat) (t0 : Nat × Nat) (t1 : Nat × Nat) (C : List (Int32 × Nat)) (k0 : Nat) (k : Int32)   (hP_0 : isTM M G t0 t1 mp C) (hP_1 : bxP M G k0 k) : Met l yJ9_get (ws_ yJ9_get cJ9_get 3 (some (.object "java/lang/Object"))) ({ frames := 5, cells := 0, slots := 0, locals := 114 }) (gPc G [.ref mp, .ref k0] M) (gQq G (fun r9 M9 k9 => r9 = (tget C k) ∧ M9 = M ∧ k9 = 0)) 0 0 (gA G) := by
  obtain ⟨cm, r, mc, ks, Ns, kb, vl, ky, lf, rt, pa, co, lo, hi, h1, h2, h3, h4, h5, h6, h7, rfl⟩ := hP_0
  rw [← tget_map]
  exact met_TM_get0 l G M mp t0 cm r Ns.length mc ks t1 Ns kb vl lf rt pa co ky lo hi k0 k h6 h7 hP_1 h1 h2 h4 h5
set_option maxHeartbeats 4000000 in
theorem met_TMap_has (l : Launch) (G : gG) (M : gM) (mp : Nat) (t0 : Nat × Nat) (t1 : Nat × Nat) (C : List (Int32 × Nat)) (k0 : Nat) (k : Int32)   (hP_0 : isTM M G t0 t1 mp C) (hP_1 : bxP M G k0 k) : Met l yJ9_containsKey (ws_ yJ9_containsKey cJ9_containsKey 2 (some .boolean)) ({ frames := 5, cells := 0, slots := 0, locals := 114 }) (gPc G [.ref mp, .ref k0] M) (gQi G (fun r9 M9 k9 => r9 = (bI (tget C k).isSome) ∧ M9 = M ∧ k9 = 0)) 0 0 (gA G) := by
  obtain ⟨cm, r, mc, ks, Ns, kb, vl, ky, lf, rt, pa, co, lo, hi, h1, h2, h3, h4, h5, h6, h7, rfl⟩ := hP_0
  rw [← tget_map, Option.isSome_map]
  exact met_TM_containsKey0 l G M mp t0 cm r Ns.length mc ks t1 Ns kb vl lf rt pa co ky lo hi k0 k h6 h7 hP_1 h1 h2 h4 h5
set_option maxHeartbeats 4000000 in
theorem met_TMap_size (l : Launch) (G : gG) (M : gM) (mp : Nat) (t0 : Nat × Nat) (t1 : Nat × Nat) (C : List (Int32 × Nat))   (hP_0 : isTM M G t0 t1 mp C) : Met l yJ9_size (ws_ yJ9_size cJ9_size 1 (some .int)) ({ frames := 0, cells := 0, slots := 0, locals := 0 }) (gPc G [.ref mp] M) (gQi G (fun r9 M9 k9 => r9 = (nI C.length) ∧ M9 = M ∧ k9 = 0)) 0 0 (gA G) := by
  obtain ⟨cm, r, mc, ks, Ns, kb, vl, ky, lf, rt, pa, co, lo, hi, h1, h2, h3, h4, h5, h6, h7, rfl⟩ := hP_0
  rw [List.length_map]
  exact met_TM_size0 l G M mp t0 cm r Ns.length mc ks h1
set_option maxHeartbeats 4000000 in
theorem met_TMap_init (l : Launch) (G : gG) (M : gM) (mp : Nat) (t0 : Nat × Nat) (t1 : Nat × Nat) (cm : Nat)  (hM_0 : M mp = some (t0, .inr (24, [.null, .null, .null, .null, .int 0, .int 0, .null, .null, .null]))) (hM_1 : M cm = some ((0, 5), .inr (5, []))) : Met l yJ9_init (ws_ yJ9_init cJ9_init 2 none) ({ frames := 2, cells := 0, slots := 0, locals := 32 }) (gPc G [.ref mp, .ref cm] M) (gQv G (fun M9 k9 => isTM M9 G t0 t1 mp ([] : List (Int32 × Nat)) ∧ gFr (gL [mp]) M M9 ∧ k9 = 0)) 0 0 (gA G) := by
  refine gMono_v (met_TM_init0 l G M mp t0 cm hM_0) ?_
  intro M9 k9 ⟨q1, q2, q3⟩
  refine ⟨⟨cm, none, 0, none, [], fun _ => 0, fun _ => 0, fun _ => 0, fun _ => none, fun _ => none, fun _ => none, fun _ => true, fun _ => none, fun _ => none, q1, ?_, fun a ha => (by cases ha), tmE.nil, fun a ha => (by cases ha), tmI.nil, List.Pairwise.nil, rfl⟩, q2, q3⟩
  exact q2 _ _ _ hM_1 (gno (gne_c hM_1 hM_0 (by decide)) gno0)
theorem tmB.add {M : gM} {G : gG} {Ns : List Nat} {kb : Nat → Nat} {ky : Nat → Int32} {k0 x : Nat} {k : Int32} (h : tmB M G Ns kb ky) (hk : gBox G M k0 k) (hx : x ∉ Ns) : tmB M G (tmIns Ns ky k x) (va_up kb x k0) (va_up ky x k) := by
  intro a ha
  rcases (tmIns_mem Ns a).mp ha with rfl | ha
  · rw [va_up_self, va_up_self]; exact hk
  · have hne : a ≠ x := fun e => hx (e ▸ ha)
    rw [va_up_ne _ _ hne, va_up_ne _ _ hne]; exact h a ha
set_option maxHeartbeats 4000000 in
theorem met_TMap_put (l : Launch) (G : gG) (M : gM) (mp : Nat) (t0 : Nat × Nat) (t1 : Nat × Nat) (C : List (Int32 × Nat)) (k0 : Nat) (k : Int32) (v0 : Nat) (ht : ¬ (t0.1 = t1.1 ∧ t0.2 = t1.2)) (ht0 : t0.1 ≠ 0) (ht1 : t1.1 ≠ 0)  (hP_0 : isTM M G t0 t1 mp C) (hP_1 : bxP M G k0 k) : Met l yJ9_put (ws_ yJ9_put cJ9_put 3 (some (.object "java/lang/Object"))) ({ frames := 15, cells := 1, slots := 6, locals := 400 }) (gPc G [.ref mp, .ref k0, .ref v0] M) (gQq G (fun r9 M9 k9 => r9 = (tget C k) ∧ isTM M9 G t0 t1 mp (tput C k v0) ∧ gFr (gT (fun t => tgE t0.1 t0.2 t ∨ tgE t1.1 t1.2 t)) M M9 ∧ k9 ≤ 1)) 1 6 (gA G) := by
  obtain ⟨cm, r, mc, ks, Ns, kb, vl, ky, lf, rt, pa, co, lo, hi, h1, h2, h3, h4, h5, h6, h7, rfl⟩ := hP_0
  rw [← tget_map]
  by_cases hN : Ns = []
  · subst hN
    have hr : r = none := by
      cases e : r with
      | none => rfl
      | some a => have := (h6.2.1 a e).1; cases this
    subst hr
    refine gMono_q (met_TM_put1_e l G M mp t0 cm mc ks t1 k0 k v0 hP_1 ht h1 h2) ?_
    intro r9 M9 k9 ⟨x9, e1, q1, q2, q3, q4, q5⟩
    have hF : gFr (gT (fun t => tgE t0.1 t0.2 t ∨ tgE t1.1 t1.2 t)) M M9 := q3.tg (fun b hb t e he => by cases List.mem_singleton.mp hb; rw [h1] at he; cases he; exact Or.inl ⟨rfl, rfl⟩)
    have hG := fr_t01 ht0 ht1 hF
    refine ⟨e1, ⟨cm, some x9, mc + 1, ks, [x9], va_up kb x9 k0, va_up vl x9 v0, va_up ky x9 k, va_up lf x9 none, va_up rt x9 none, va_up pa x9 none, va_up co x9 true, fun _ => none, fun _ => none, q1, hG _ _ _ h2 (fun z => z rfl), fun a ha => hG _ _ _ (h3 a ha) (fun z => z rfl), tmE.add (Ns := []) tmE.nil (pz := none) q2 (by simp) (fun a ha => by simpa using ha), ?_, tmI.one (va_up_self _ _ _) (va_up_self _ _ _) (va_up_self _ _ _), ?_, ?_⟩, hF, q5⟩
    · intro a ha
      cases List.mem_singleton.mp ha
      rw [va_up_self, va_up_self]
      exact gBox.fr hP_1 hG (fun _ _ q => q)
    · exact List.pairwise_singleton _ _
    · simp [tput, va_up_self]
  · cases hf : tmF Ns ky k with
    | none =>
      obtain ⟨z9, hz9⟩ : ∃ z, z ∈ Ns := by
        cases Ns with
        | nil => exact absurd rfl hN
        | cons a l => exact ⟨a, by simp⟩
      have habs := tmF_no hf
      refine gMono_q (met_TM_put1_n l G M mp t0 cm r Ns.length mc ks t1 Ns kb vl lf rt pa co ky lo hi k0 k v0 z9 h6 h7 ht ht0 ht1 hz9 habs h1 h2 h4 h5 hP_1) ?_
      intro r9 M9 k9 ⟨x9, lf1, rt1, pa1, co1, r1, lo1, hi1, e1, q1, q2, q3, q4, q5, q6⟩
      have hG := fr_t01 ht0 ht1 q3
      refine ⟨e1, ⟨cm, r1, mc + 1, ks, tmIns Ns ky k x9, va_up kb x9 k0, va_up vl x9 v0, va_up ky x9 k, lf1, rt1, pa1, co1, lo1, hi1, ?_, hG _ _ _ h2 (fun z => z rfl), fun a ha => hG _ _ _ (h3 a ha) (fun z => z rfl), q2, ?_, q4, tmIns_sorted Ns q5 h7 habs, ?_⟩, q3, q6⟩
      · rw [tmIns_len]; exact q1
      · exact (h5.add hP_1 q5).fr hG
      · exact (tmIns_map Ns q5 habs).symm
    | some a0 =>
      obtain ⟨ha0, hk0⟩ := tmF_mem hf
      refine gMono_q (met_TM_put1_r l G M mp t0 cm r Ns.length mc ks t1 Ns kb vl lf rt pa co ky lo hi k0 k v0 a0 h6 h7 ht ht0 ht1 ha0 hk0 h1 h2 h4 h5 hP_1) ?_
      intro r9 M9 k9 ⟨e1, q1, q2, q3, q4⟩
      have hF : gFr (gT (fun t => tgE t0.1 t0.2 t ∨ tgE t1.1 t1.2 t)) M M9 := q3.mono (fun _ t q => Or.inr q)
      have hG := fr_t01 ht0 ht1 hF
      exact ⟨e1, ⟨cm, r, mc, ks, Ns, kb, va_up vl a0 v0, ky, lf, rt, pa, co, lo, hi, q1, hG _ _ _ h2 (fun z => z rfl), fun a ha => hG _ _ _ (h3 a ha) (fun z => z rfl), q2, h5.fr hG, h6, h7, (tput_rep Ns h7 ha0 hk0).symm⟩, hF, by omega⟩
theorem trem_none {Ns : List Nat} {ky : Nat → Int32} {vl : Nat → Nat} {k : Int32} (h : tmF Ns ky k = none) : trem (Ns.map (fun a => (ky a, vl a))) k = Ns.map (fun a => (ky a, vl a)) := by
  unfold trem
  rw [List.filter_eq_self]
  intro e he
  obtain ⟨a, ha, rfl⟩ := List.mem_map.mp he
  simpa using tmF_no h a ha
theorem srt_iff {l : List Nat} {f g : Nat → Int32} (h1 : tmS l f) (h2 : tmS l g) {a b : Nat} (ha : a ∈ l) (hb : b ∈ l) : (f a < f b ↔ g a < g b) := by
  have g1 := List.pairwise_iff_getElem.mp h1
  have g2 := List.pairwise_iff_getElem.mp h2
  obtain ⟨i, hi, rfl⟩ := List.getElem_of_mem ha
  obtain ⟨j, hj, rfl⟩ := List.getElem_of_mem hb
  rcases Nat.lt_trichotomy i j with h | h | h
  · exact ⟨fun _ => g2 i j hi hj h, fun _ => g1 i j hi hj h⟩
  · subst h; exact ⟨fun q => absurd q (i32ir _), fun q => absurd q (i32ir _)⟩
  · exact ⟨fun q => absurd (Int32.lt_trans q (g1 j i hj hi h)) (i32ir _), fun q => absurd (Int32.lt_trans q (g2 j i hj hi h)) (i32ir _)⟩
theorem wo_len {Ns : List Nat} {pd : Nat} (hN : Ns.Nodup) (h : pd ∈ Ns) : (wo Ns pd).length + 1 = Ns.length := by
  have : (wo Ns pd) = Ns.erase pd := by rw [hN.erase_eq_filter]; apply List.filter_congr; intro a _; by_cases e : a = pd <;> simp [e]
  rw [this, List.length_erase_of_mem h]
  have := List.length_pos_of_mem h
  omega
set_option maxHeartbeats 4000000 in
theorem met_TMap_remove (l : Launch) (G : gG) (M : gM) (mp : Nat) (t0 : Nat × Nat) (t1 : Nat × Nat) (C : List (Int32 × Nat)) (k0 : Nat) (k : Int32) (ht : ¬ (t0.1 = t1.1 ∧ t0.2 = t1.2)) (ht0 : t0.1 ≠ 0) (ht1 : t1.1 ≠ 0)  (hP_0 : isTM M G t0 t1 mp C) (hP_1 : bxP M G k0 k) : Met l yJ9_remove (ws_ yJ9_remove cJ9_remove 4 (some (.object "java/lang/Object"))) ({ frames := 5, cells := 0, slots := 0, locals := 114 }) (gPc G [.ref mp, .ref k0] M) (gQq G (fun r9 M9 k9 => r9 = (tget C k) ∧ isTM M9 G t0 t1 mp (trem C k) ∧ gFr (gT (fun t => tgE t0.1 t0.2 t ∨ tgE t1.1 t1.2 t)) M M9 ∧ k9 = 0)) 0 0 (gA G) := by
  obtain ⟨cm, r, mc, ks, Ns, kb, vl, ky, lf, rt, pa, co, lo, hi, h1, h2, h3, h4, h5, h6, h7, rfl⟩ := hP_0
  rw [← tget_map]
  cases hf : tmF Ns ky k with
  | none =>
    refine gMono_q (met_TM_remove0 l G M mp t0 cm r Ns.length mc ks t1 Ns kb vl lf rt pa co ky lo hi k0 k h6 h7 hP_1 hf h1 h2 h4 h5) ?_
    intro r9 M9 k9 ⟨e1, e2, e3⟩
    subst e2
    exact ⟨e1, by rw [trem_none hf]; exact ⟨cm, r, mc, ks, Ns, kb, vl, ky, lf, rt, pa, co, lo, hi, h1, h2, h3, h4, h5, h6, h7, rfl⟩, gFr.refl, e3⟩
  | some a0 =>
    obtain ⟨ha0, hk0⟩ := tmF_mem hf
    obtain ⟨n, hn⟩ : ∃ n, Ns.length = n + 1 := ⟨Ns.length - 1, by have := List.length_pos_of_mem ha0; omega⟩
    have h1' := h1
    rw [hn] at h1'
    refine gMono_q (met_TM_remove1 l G M mp t0 cm r n mc ks t1 Ns kb vl lf rt pa co ky lo hi k0 k a0 h6 h7 hP_1 ht ht0 ht1 ha0 hf h1' h2 h4 h5) ?_
    intro r9 M9 k9 ⟨pd, kb1, vl1, lf1, rt1, pa1, co1, r1, lo1, hi1, e1, q1, q2, q3, q4, q5, q6, q7⟩
    have hG := fr_t01 ht0 ht1 q3
    have hlen := wo_len h6.1 q6
    have hl2 : (wo Ns pd).length = n := by omega
    rw [← hk0]
    rcases q5 with ⟨rfl, rfl, rfl⟩ | ⟨hne, hH, rfl, rfl⟩
    · exact ⟨e1, ⟨cm, r1, mc + 1, ks, wo Ns pd, kb1, vl1, ky, lf1, rt1, pa1, co1, lo1, hi1, by rw [hl2]; exact q1, hG _ _ _ h2 (fun z => z rfl), fun a ha => hG _ _ _ (h3 a ha) (fun z => z rfl), q2, fun a ha => (h5.fr hG) a (wo_mem.mp ha).1, q4, tmS_filter h7, (trem_own h7 ha0).symm⟩, q3, q7⟩
    · refine ⟨e1, ⟨cm, r1, mc + 1, ks, wo Ns pd, va_up kb a0 (kb pd), va_up vl a0 (vl pd), va_up ky a0 (ky pd), lf1, rt1, pa1, co1, lo1, hi1, by rw [hl2]; exact q1, hG _ _ _ h2 (fun z => z rfl), fun a ha => hG _ _ _ (h3 a ha) (fun z => z rfl), q2, ?_, ?_, tmS_succ h7 h6.1 ha0 hH, (trem_succ h7 h6.1 ha0 hH).symm⟩, q3, q7⟩
      · intro a ha
        by_cases e : a = a0
        · subst e; rw [va_up_self, va_up_self]; exact (h5.fr hG) pd q6
        · rw [va_up_ne _ _ e, va_up_ne _ _ e]; exact (h5.fr hG) a (wo_mem.mp ha).1
      · refine q4.congr (fun a ha b hb => ?_)
        have hsp := tmS_succ h7 h6.1 ha0 hH
        have hs0 : tmS (wo Ns pd) ky := tmS_filter h7
        rw [kyR_lt, kyR_lt]
        exact srt_iff hs0 hsp ha hb
