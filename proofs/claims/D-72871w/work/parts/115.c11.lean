/-! TreeMap: insertion -/
set_option maxRecDepth 100000
theorem tmE.add {M : gM} {t : Nat × Nat} {Ns Ns' : List Nat} {kb vl : Nat → Nat} {lf rt pa : Nat → Option Nat} {co : Nat → Bool} (h : tmE M t Ns kb vl lf rt pa co) {x k0 v0 : Nat} {pz : Option Nat} (hx : M x = some (t, .inr (25, [.ref k0, .ref v0, .null, .null, va_rf pz, .int 1]))) (hxn : x ∉ Ns) (hm : ∀ a ∈ Ns', a = x ∨ a ∈ Ns) : tmE M t Ns' (va_up kb x k0) (va_up vl x v0) (va_up lf x none) (va_up rt x none) (va_up pa x pz) (va_up co x true) := by
  intro a ha
  rcases hm a ha with rfl | ha
  · simp only [va_up_self]; exact hx
  · have hne : a ≠ x := fun e => hxn (e ▸ ha)
    simp only [va_up_ne _ _ hne]
    exact h a ha
theorem tmE.nil {M : gM} {t : Nat × Nat} {kb vl : Nat → Nat} {lf rt pa : Nat → Option Nat} {co : Nat → Bool} : tmE M t [] kb vl lf rt pa co := fun a ha => by cases ha
theorem tmE.out {M : gM} {t : Nat × Nat} {Ns : List Nat} {kb vl : Nat → Nat} {lf rt pa : Nat → Option Nat} {co : Nat → Bool} (h : tmE M t Ns kb vl lf rt pa co) {x : Nat} (hx : M x = none) : x ∉ Ns := fun q => by have := h x q; rw [hx] at this; cases this
theorem kyR_cg {Ns : List Nat} {ky : Nat → Int32} {k : Int32} {x : Nat} (hx : x ∉ Ns) : ∀ a ∈ Ns, ∀ b ∈ Ns, (kyR ky a < kyR ky b ↔ kyR (va_up ky x k) a < kyR (va_up ky x k) b) := by
  intro a ha b hb
  have hax : a ≠ x := fun e => hx (e ▸ ha)
  have hbx : b ≠ x := fun e => hx (e ▸ hb)
  rw [kyR_lt, kyR_lt, va_up_ne _ _ hax, va_up_ne _ _ hbx]
theorem tmI.addL {r : Option Nat} {Ns : List Nat} {ky : Nat → Int32} {lf rt pa lo hi : Nat → Option Nat} (h : tmI r Ns (kyR ky) lf rt pa lo hi) {P x : Nat} {k : Int32} (hP : P ∈ Ns) (hx : x ∉ Ns) (hl : lf P = none) (hk : k < ky P) (ha : atK ky lo hi P k) : tmI r (tmIns Ns ky k x) (kyR (va_up ky x k)) (va_up (va_up lf x none) P (some x)) (va_up rt x none) (va_up pa x (some P)) (va_up lo x (lo P)) (va_up hi x (some P)) := by
  have hPx : P ≠ x := fun e => hx (e ▸ hP)
  refine (h.congr (kyR_cg (k := k) hx)).insL hP hx (tmIns_nodup Ns hx h.1) (tmIns_mem Ns) hl ?_ (fun u hu => ?_)
  · rw [kyR_lt, va_up_self, va_up_ne _ _ hPx]; exact hk
  · have hux : u ≠ x := fun e => hx (e ▸ ((h.2.2.2.1 P hP).1 u hu).1)
    rw [kyR_lt, va_up_self, va_up_ne _ _ hux]; exact ha.1 u hu
theorem tmI.addR {r : Option Nat} {Ns : List Nat} {ky : Nat → Int32} {lf rt pa lo hi : Nat → Option Nat} (h : tmI r Ns (kyR ky) lf rt pa lo hi) {P x : Nat} {k : Int32} (hP : P ∈ Ns) (hx : x ∉ Ns) (hl : rt P = none) (hk : ky P < k) (ha : atK ky lo hi P k) : tmI r (tmIns Ns ky k x) (kyR (va_up ky x k)) (va_up lf x none) (va_up (va_up rt x none) P (some x)) (va_up pa x (some P)) (va_up lo x (some P)) (va_up hi x (hi P)) := by
  have hPx : P ≠ x := fun e => hx (e ▸ hP)
  refine (h.congr (kyR_cg (k := k) hx)).insR hP hx (tmIns_nodup Ns hx h.1) (tmIns_mem Ns) hl ?_ (fun u hu => ?_)
  · rw [kyR_lt, va_up_self, va_up_ne _ _ hPx]; exact hk
  · have hux : u ≠ x := fun e => hx (e ▸ ((h.2.2.2.1 P hP).2 u hu).1)
    rw [kyR_lt, va_up_self, va_up_ne _ _ hux]; exact ha.2 u hu
set_option maxHeartbeats 4000000 in
theorem met_TMe_init (l : Launch) (G : gG) (M : gM) (h : Nat) (t : Nat × Nat) (k0 : Nat) (v0 : Nat) (pz : Option Nat)  (hM_0 : M h = some (t, .inr (25, [.null, .null, .null, .null, .null, .int 0]))) : Met l yJ21_init (ws_ yJ21_init cJ21_init 4 none) ({ frames := 1, cells := 0, slots := 0, locals := 12 }) (gPc G [.ref h, .ref k0, .ref v0, va_rf pz] M) (gQv G (fun M9 k9 => M9 h = some (t, .inr (25, [.ref k0, .ref v0, .null, .null, va_rf pz, .int 1])) ∧ gFr (gL [h]) M M9 ∧ k9 = 0)) 0 0 (gA G) := by
  refine gMet [(0, .ref h), (1, .ref k0), (2, .ref v0), (3, va_rf pz)] (by decide) (by cases pz <;> exact Nat.le_of_ble_eq_true rfl) (by cases pz <;> rfl) ?_
  intro p e s m below meth c hC
  refine g_aload_n hC dJ21_init_0 0 rfl gRef_r 1 rfl ?_
  refine g_objInit hC q1021 q176 q177 dJ21_init_1 (Nat.le_of_ble_eq_true rfl) (Nat.le_of_ble_eq_true rfl) 4 rfl ?_
  refine g_aload_n hC dJ21_init_4 0 rfl gRef_r 5 rfl ?_
  refine g_iconst hC dJ21_init_5 ki_1 6 rfl ?_
  refine g_put hC cI25 hM_0 5 (Nat.le_of_ble_eq_true rfl) q1033 rfl (by decide) rfl (Nat.le_of_ble_eq_true rfl) dJ21_init_6 (fs' := [.null, .null, .null, .null, .null, .int 1]) rfl 9 rfl (fun M1 hU2 => ?_)
  refine g_aload_n hC dJ21_init_9 0 rfl gRef_r 10 rfl ?_
  refine g_aload_n hC dJ21_init_10 1 rfl gRef_r 11 rfl ?_
  refine g_put hC cI25 hU2.1 0 (Nat.le_of_ble_eq_true rfl) q1022 rfl rfl rfl (Nat.le_of_ble_eq_true rfl) dJ21_init_11 (fs' := [.ref k0, .null, .null, .null, .null, .int 1]) rfl 14 rfl (fun M3 hU4 => ?_)
  refine g_aload_n hC dJ21_init_14 0 rfl gRef_r 15 rfl ?_
  refine g_aload_n hC dJ21_init_15 2 rfl gRef_r 16 rfl ?_
  refine g_put hC cI25 hU4.1 1 (Nat.le_of_ble_eq_true rfl) q1025 rfl rfl rfl (Nat.le_of_ble_eq_true rfl) dJ21_init_16 (fs' := [.ref k0, .ref v0, .null, .null, .null, .int 1]) rfl 19 rfl (fun M5 hU6 => ?_)
  refine g_aload_n hC dJ21_init_19 0 rfl gRef_r 20 rfl ?_
  refine g_aload_n hC dJ21_init_20 3 rfl gRef_q 21 rfl ?_
  refine g_put hC cI25 hU6.1 4 (Nat.le_of_ble_eq_true rfl) q1031 rfl gq_n gq_f (Nat.le_of_ble_eq_true rfl) dJ21_init_21 (fs' := [.ref k0, .ref v0, .null, .null, va_rf pz, .int 1]) rfl 24 rfl (fun M7 hU8 => ?_)
  exact g_vret hC (fun k9 hk9 => ⟨hU8.1, ((((gFr.refl.up hU2 hM_0 (by simp)).up hU4 hU2.1 (by simp)).up hU6 hU4.1 (by simp)).up hU8 hU6.1 (by simp)), (by first | exact Nat.le_zero.mp hk9 | omega)⟩) dJ21_init_24 (Nat.le_of_ble_eq_true rfl) (Nat.le_of_ble_eq_true rfl)
def bxP (M : gM) (G : gG) (a : Nat) (x : Int32) : Prop := gBox G M a x
theorem bxP.fr {M M' : gM} {G : gG} {a : Nat} {x : Int32} (h : bxP M G a x) (hF : gFr (gT (fun t => ¬ tg0 t)) M M') : bxP M' G a x := gBox.fr h hF (fun _ _ q => q)
set_option maxHeartbeats 4000000 in
theorem met_TM_addEntryL (l : Launch) (G : gG) (M : gM) (mp : Nat) (t0 : Nat × Nat) (cm : Nat) (r : Option Nat) (n : Nat) (mc : Int32) (ks : Option Nat) (t1 : Nat × Nat) (Ns : List Nat) (kb : Nat → Nat) (vl : Nat → Nat) (lf : Nat → Option Nat) (rt : Nat → Option Nat) (pa : Nat → Option Nat) (co : Nat → Bool) (ky : Nat → Int32) (lo : Nat → Option Nat) (hi : Nat → Option Nat) (k0 : Nat) (k : Int32) (v0 : Nat) (P9 : Nat) (hI : tmI r Ns (kyR ky) lf rt pa lo hi) (hP9 : P9 ∈ Ns) (hl : lf P9 = none) (hkP : k < ky P9) (hat : atK ky lo hi P9 k) (ht : ¬ (t0.1 = t1.1 ∧ t0.2 = t1.2)) (ht0 : t0.1 ≠ 0) (ht1 : t1.1 ≠ 0) (hM_0 : M mp = some (t0, .inr (24, [.null, .null, .ref cm, va_rf r, .int (nI n), .int mc, .null, va_rf ks, .null]))) (hP_0 : tmE M t1 Ns kb vl lf rt pa co) : Met l yJ9_addEntry (ws_ yJ9_addEntry cJ9_addEntry 6 none) ({ frames := 12, cells := 1, slots := 6, locals := 300 }) (gPc G [.ref mp, .ref k0, .ref v0, .ref P9, .int 1] M) (gQv G (fun M9 k9 => ∃ x9 : Nat, ∃ lf1 : Nat → Option Nat, ∃ rt1 : Nat → Option Nat, ∃ pa1 : Nat → Option Nat, ∃ co1 : Nat → Bool, ∃ r1 : Option Nat, ∃ lo1 : Nat → Option Nat, ∃ hi1 : Nat → Option Nat, M9 mp = some (t0, .inr (24, [.null, .null, .ref cm, va_rf r1, .int (nI (n + 1)), .int (mc + 1), .null, va_rf ks, .null])) ∧ tmE M9 t1 (tmIns Ns ky k x9) (va_up kb x9 k0) (va_up vl x9 v0) lf1 rt1 pa1 co1 ∧ gFr (gT (fun t => tgE t0.1 t0.2 t ∨ tgE t1.1 t1.2 t)) M M9 ∧ tmI r1 (tmIns Ns ky k x9) (kyR (va_up ky x9 k)) lf1 rt1 pa1 lo1 hi1 ∧ x9 ∉ Ns ∧ k9 ≤ 1)) 1 6 (gA G) := by
  refine gMet [(0, .ref mp), (1, .ref k0), (2, .ref v0), (3, .ref P9), (4, .int 1)] (by decide) (Nat.le_of_ble_eq_true rfl) rfl ?_
  intro p e s m below meth c hC
  refine g_new hC cI25 q1016 q1017 q136 df25 t1 (Nat.le_of_ble_eq_true rfl) (Nat.le_of_ble_eq_true rfl) 1 (Nat.le_of_ble_eq_true rfl) 6 (Nat.le_of_ble_eq_true rfl) dJ9_addEntry_0 3 rfl (fun a1 M2 hN3 => ?_)
  refine g_dup hC dJ9_addEntry_3 rfl 4 rfl ?_
  refine g_aload_n hC dJ9_addEntry_4 1 rfl gRef_r 5 rfl ?_
  refine g_aload_n hC dJ9_addEntry_5 2 rfl gRef_r 6 rfl ?_
  refine g_aload_n hC dJ9_addEntry_6 3 rfl gRef_r 7 rfl ?_
  refine g_callv (g_I (As := [.ref k0, .ref v0, .ref P9]) (rest := [.ref a1]) hC miJ21_init q1018 (met_TMe_init l G M2 a1 t1 k0 v0 (some P9) hN3.2.1) ⟨rfl, rfl⟩ ⟨(Nat.le_of_ble_eq_true rfl), (Nat.le_of_ble_eq_true rfl)⟩ rfl (Nat.le_of_ble_eq_true rfl) dJ9_addEntry_7 rfl ⟨(Nat.le_of_ble_eq_true rfl), (Nat.le_of_ble_eq_true rfl)⟩) 1 (Nat.le_of_ble_eq_true rfl) 6 (Nat.le_of_ble_eq_true rfl) 10 rfl (fun M4 k5 hp6 => ?_)
  obtain ⟨hc8, hF9, hk10⟩ := hp6
  refine g_astore hC dJ9_addEntry_10 gRef_r (Nat.le_of_ble_eq_true rfl) [(5, .ref a1), (0, .ref mp), (1, .ref k0), (2, .ref v0), (3, .ref P9), (4, .int 1)] rfl 12 rfl ?_
  have hxn : a1 ∉ Ns := tmE.out hP_0 hN3.1
  have hE9 : tmE M4 t1 (tmIns Ns ky k a1) (va_up kb a1 k0) (va_up vl a1 v0) (va_up lf a1 none) (va_up rt a1 none) (va_up pa a1 (some P9)) (va_up co a1 true) := tmE.add (tmE.fr hP_0 ((gFr.refl.nw hN3).trf hF9 (fun b t e hb hn => (gno (hN3.ne (gFr.refl b t e hb hn)) gno0)))) hc8 hxn (fun z hz => (tmIns_mem Ns z).mp hz)
  have hxm9 : a1 ∈ tmIns Ns ky k a1 := (tmIns_mem Ns _).mpr (Or.inl rfl)
  have hPm9 : P9 ∈ tmIns Ns ky k a1 := (tmIns_mem Ns _).mpr (Or.inr hP9)
  refine g_iload hC dJ9_addEntry_12 5 rfl 14 rfl ?_
  refine g_if_eq hC dJ9_addEntry_14 26 rfl 17 rfl (fun c_11 => ?_) (fun c_11 => ?_)
  · exact absurd c_11 (by decide)
  · refine g_aload_n hC dJ9_addEntry_17 4 rfl gRef_r 18 rfl ?_
    refine g_aload hC dJ9_addEntry_18 0 rfl gRef_r 20 rfl ?_
    refine g_put hC cI25 (hE9 P9 hPm9) 2 (Nat.le_of_ble_eq_true rfl) q1028 rfl rfl rfl (Nat.le_of_ble_eq_true rfl) dJ9_addEntry_20 (fs' := [.ref ((va_up kb a1 k0) P9), .ref ((va_up vl a1 v0) P9), .ref a1, va_rf ((va_up rt a1 none) P9), va_rf ((va_up pa a1 (some P9)) P9), .int (bI ((va_up co a1 true) P9))]) rfl 23 rfl (fun M12 hU13 => ?_)
    have hE14 : tmE M12 t1 (tmIns Ns ky k a1) (va_up kb a1 k0) (va_up vl a1 v0) (va_up (va_up lf a1 none) P9 (some a1)) (va_up rt a1 none) (va_up pa a1 (some P9)) (va_up co a1 true) := tmE.s2 hE9 (v := some a1) hU13
    have hH15 := (hU13.n (gne_c (hF9 _ _ _ (hN3.n hM_0) (gno (hN3.ne hM_0) gno0)) (hE9 P9 hPm9) (by decide)) (hF9 _ _ _ (hN3.n hM_0) (gno (hN3.ne hM_0) gno0)))
    refine g_goto hC dJ9_addEntry_23 32 rfl ?_
    refine g_aload_n hC dJ9_addEntry_32 1 rfl gRef_r 33 rfl ?_
    refine g_aload hC dJ9_addEntry_33 0 rfl gRef_r 35 rfl ?_
    refine g_callv (g_V (As := [.ref a1]) (rest := []) hC mvJ9_fixAfterInsertion q1052 (gOf.of hC.K cI24 hH15) (met_TM_fixI l G M12 mp t0 cm r n mc ks t1 (tmIns Ns ky k a1) (va_up kb a1 k0) (va_up vl a1 v0) (va_up (va_up lf a1 none) P9 (some a1)) (va_up rt a1 none) (va_up pa a1 (some P9)) (va_up co a1 true) (kyR (va_up ky a1 k)) (va_up lo a1 (lo P9)) (va_up hi a1 (some P9)) a1 (hI.addL hP9 hxn hl hkP hat) hxm9 ht hH15 hE14) ⟨rfl, rfl⟩ ⟨(Nat.le_of_ble_eq_true rfl), (Nat.le_of_ble_eq_true rfl)⟩ rfl (Nat.le_of_ble_eq_true rfl) dJ9_addEntry_35 rfl ⟨(Nat.le_of_ble_eq_true rfl), (Nat.le_of_ble_eq_true rfl)⟩) 1 (Nat.le_of_ble_eq_true rfl) 6 (Nat.le_of_ble_eq_true rfl) 38 rfl (fun M16 k17 hp18 => ?_)
    obtain ⟨lf1_20, rt1_21, pa1_22, co1_23, r1_24, lo1_25, hi1_26, hc27, hpd28, hF29, hq30, hk31⟩ := hp18
    refine g_aload_n hC dJ9_addEntry_38 1 rfl gRef_r 39 rfl ?_
    refine g_dup hC dJ9_addEntry_39 rfl 40 rfl ?_
    refine g_get (v := .int (nI n)) hC cI24 hc27 4 (Nat.le_of_ble_eq_true rfl) q344 rfl dJ9_addEntry_40 43 rfl ?_
    refine g_iconst hC dJ9_addEntry_43 ki_1 44 rfl ?_
    refine g_iadd hC dJ9_addEntry_44 45 rfl ?_
    refine g_topi (y := nI (n + 1)) (nI_a (a := n) (b := 1) (c := (n + 1)) (by omega)) ?_
    refine g_put hC cI24 hc27 4 (Nat.le_of_ble_eq_true rfl) q344 rfl rfl rfl (Nat.le_of_ble_eq_true rfl) dJ9_addEntry_45 (fs' := [.null, .null, .ref cm, va_rf r1_24, .int (nI (n + 1)), .int mc, .null, va_rf ks, .null]) rfl 48 rfl (fun M32 hU33 => ?_)
    refine g_aload_n hC dJ9_addEntry_48 1 rfl gRef_r 49 rfl ?_
    refine g_dup hC dJ9_addEntry_49 rfl 50 rfl ?_
    refine g_get (v := .int mc) hC cI24 hU33.1 5 (Nat.le_of_ble_eq_true rfl) q346 rfl dJ9_addEntry_50 53 rfl ?_
    refine g_iconst hC dJ9_addEntry_53 ki_1 54 rfl ?_
    refine g_iadd hC dJ9_addEntry_54 55 rfl ?_
    refine g_put hC cI24 hU33.1 5 (Nat.le_of_ble_eq_true rfl) q346 rfl rfl rfl (Nat.le_of_ble_eq_true rfl) dJ9_addEntry_55 (fs' := [.null, .null, .ref cm, va_rf r1_24, .int (nI (n + 1)), .int (mc + 1), .null, va_rf ks, .null]) rfl 58 rfl (fun M34 hU35 => ?_)
    exact g_vret hC (fun k9 hk9 => ⟨a1, lf1_20, rt1_21, pa1_22, co1_23, r1_24, lo1_25, hi1_26, hU35.1, (tmE.fr hpd28 ((gFr.refl.up hU33 hc27 (show (fun t => ¬ (tgE t1.1 t1.2) t) t0 by (try simp only [ndT, tgE, gT, tgR, ndT9, tg0, Prod.mk.injEq]); first | done | omega | (simp; done))).up hU35 hU33.1 (show (fun t => ¬ (tgE t1.1 t1.2) t) t0 by (try simp only [ndT, tgE, gT, tgR, ndT9, tg0, Prod.mk.injEq]); first | done | omega | (simp; done)))), ((((((gFr.refl.nw hN3).trf hF9 (fun b t e hb hn => (gno (hN3.ne (gFr.refl b t e hb hn)) gno0))).up hU13 (hE9 P9 hPm9) (show (fun t => tgE t0.1 t0.2 t ∨ tgE t1.1 t1.2 t) t1 by (try simp only [ndT, tgE, gT, tgR, ndT9, tg0, Prod.mk.injEq]); first | done | omega | (simp; done))).trans (hF29.mono (fun b t h => by obtain ⟨u9, v9⟩ := t; revert h; (try simp only [ndT, tgE, gT, tgR, ndT9, tg0, Prod.mk.injEq]); first | done | omega | (simp; done) | (intro h; simp_all; done)))).up hU33 hc27 (show (fun t => tgE t0.1 t0.2 t ∨ tgE t1.1 t1.2 t) t0 by (try simp only [ndT, tgE, gT, tgR, ndT9, tg0, Prod.mk.injEq]); first | done | omega | (simp; done))).up hU35 hU33.1 (show (fun t => tgE t0.1 t0.2 t ∨ tgE t1.1 t1.2 t) t0 by (try simp only [ndT, tgE, gT, tgR, ndT9, tg0, Prod.mk.injEq]); first | done | omega | (simp; done))), hq30, hxn, (by first | exact Nat.le_zero.mp hk9 | omega)⟩) dJ9_addEntry_58 (Nat.le_of_ble_eq_true rfl) (Nat.le_of_ble_eq_true rfl)
set_option maxHeartbeats 4000000 in
theorem met_TM_addEntryR (l : Launch) (G : gG) (M : gM) (mp : Nat) (t0 : Nat × Nat) (cm : Nat) (r : Option Nat) (n : Nat) (mc : Int32) (ks : Option Nat) (t1 : Nat × Nat) (Ns : List Nat) (kb : Nat → Nat) (vl : Nat → Nat) (lf : Nat → Option Nat) (rt : Nat → Option Nat) (pa : Nat → Option Nat) (co : Nat → Bool) (ky : Nat → Int32) (lo : Nat → Option Nat) (hi : Nat → Option Nat) (k0 : Nat) (k : Int32) (v0 : Nat) (P9 : Nat) (hI : tmI r Ns (kyR ky) lf rt pa lo hi) (hP9 : P9 ∈ Ns) (hl : rt P9 = none) (hkP : ky P9 < k) (hat : atK ky lo hi P9 k) (ht : ¬ (t0.1 = t1.1 ∧ t0.2 = t1.2)) (ht0 : t0.1 ≠ 0) (ht1 : t1.1 ≠ 0) (hM_0 : M mp = some (t0, .inr (24, [.null, .null, .ref cm, va_rf r, .int (nI n), .int mc, .null, va_rf ks, .null]))) (hP_0 : tmE M t1 Ns kb vl lf rt pa co) : Met l yJ9_addEntry (ws_ yJ9_addEntry cJ9_addEntry 6 none) ({ frames := 12, cells := 1, slots := 6, locals := 300 }) (gPc G [.ref mp, .ref k0, .ref v0, .ref P9, .int 0] M) (gQv G (fun M9 k9 => ∃ x9 : Nat, ∃ lf1 : Nat → Option Nat, ∃ rt1 : Nat → Option Nat, ∃ pa1 : Nat → Option Nat, ∃ co1 : Nat → Bool, ∃ r1 : Option Nat, ∃ lo1 : Nat → Option Nat, ∃ hi1 : Nat → Option Nat, M9 mp = some (t0, .inr (24, [.null, .null, .ref cm, va_rf r1, .int (nI (n + 1)), .int (mc + 1), .null, va_rf ks, .null])) ∧ tmE M9 t1 (tmIns Ns ky k x9) (va_up kb x9 k0) (va_up vl x9 v0) lf1 rt1 pa1 co1 ∧ gFr (gT (fun t => tgE t0.1 t0.2 t ∨ tgE t1.1 t1.2 t)) M M9 ∧ tmI r1 (tmIns Ns ky k x9) (kyR (va_up ky x9 k)) lf1 rt1 pa1 lo1 hi1 ∧ x9 ∉ Ns ∧ k9 ≤ 1)) 1 6 (gA G) := by
  refine gMet [(0, .ref mp), (1, .ref k0), (2, .ref v0), (3, .ref P9), (4, .int 0)] (by decide) (Nat.le_of_ble_eq_true rfl) rfl ?_
  intro p e s m below meth c hC
  refine g_new hC cI25 q1016 q1017 q136 df25 t1 (Nat.le_of_ble_eq_true rfl) (Nat.le_of_ble_eq_true rfl) 1 (Nat.le_of_ble_eq_true rfl) 6 (Nat.le_of_ble_eq_true rfl) dJ9_addEntry_0 3 rfl (fun a1 M2 hN3 => ?_)
  refine g_dup hC dJ9_addEntry_3 rfl 4 rfl ?_
  refine g_aload_n hC dJ9_addEntry_4 1 rfl gRef_r 5 rfl ?_
  refine g_aload_n hC dJ9_addEntry_5 2 rfl gRef_r 6 rfl ?_
  refine g_aload_n hC dJ9_addEntry_6 3 rfl gRef_r 7 rfl ?_
  refine g_callv (g_I (As := [.ref k0, .ref v0, .ref P9]) (rest := [.ref a1]) hC miJ21_init q1018 (met_TMe_init l G M2 a1 t1 k0 v0 (some P9) hN3.2.1) ⟨rfl, rfl⟩ ⟨(Nat.le_of_ble_eq_true rfl), (Nat.le_of_ble_eq_true rfl)⟩ rfl (Nat.le_of_ble_eq_true rfl) dJ9_addEntry_7 rfl ⟨(Nat.le_of_ble_eq_true rfl), (Nat.le_of_ble_eq_true rfl)⟩) 1 (Nat.le_of_ble_eq_true rfl) 6 (Nat.le_of_ble_eq_true rfl) 10 rfl (fun M4 k5 hp6 => ?_)
  obtain ⟨hc8, hF9, hk10⟩ := hp6
  refine g_astore hC dJ9_addEntry_10 gRef_r (Nat.le_of_ble_eq_true rfl) [(5, .ref a1), (0, .ref mp), (1, .ref k0), (2, .ref v0), (3, .ref P9), (4, .int 0)] rfl 12 rfl ?_
  have hxn : a1 ∉ Ns := tmE.out hP_0 hN3.1
  have hE9 : tmE M4 t1 (tmIns Ns ky k a1) (va_up kb a1 k0) (va_up vl a1 v0) (va_up lf a1 none) (va_up rt a1 none) (va_up pa a1 (some P9)) (va_up co a1 true) := tmE.add (tmE.fr hP_0 ((gFr.refl.nw hN3).trf hF9 (fun b t e hb hn => (gno (hN3.ne (gFr.refl b t e hb hn)) gno0)))) hc8 hxn (fun z hz => (tmIns_mem Ns z).mp hz)
  have hxm9 : a1 ∈ tmIns Ns ky k a1 := (tmIns_mem Ns _).mpr (Or.inl rfl)
  have hPm9 : P9 ∈ tmIns Ns ky k a1 := (tmIns_mem Ns _).mpr (Or.inr hP9)
  refine g_iload hC dJ9_addEntry_12 5 rfl 14 rfl ?_
  refine g_if_eq hC dJ9_addEntry_14 26 rfl 17 rfl (fun c_11 => ?_) (fun c_11 => ?_)
  · refine g_aload_n hC dJ9_addEntry_26 4 rfl gRef_r 27 rfl ?_
    refine g_aload hC dJ9_addEntry_27 0 rfl gRef_r 29 rfl ?_
    refine g_put hC cI25 (hE9 P9 hPm9) 3 (Nat.le_of_ble_eq_true rfl) q1030 rfl rfl rfl (Nat.le_of_ble_eq_true rfl) dJ9_addEntry_29 (fs' := [.ref ((va_up kb a1 k0) P9), .ref ((va_up vl a1 v0) P9), va_rf ((va_up lf a1 none) P9), .ref a1, va_rf ((va_up pa a1 (some P9)) P9), .int (bI ((va_up co a1 true) P9))]) rfl 32 rfl (fun M12 hU13 => ?_)
    have hE14 : tmE M12 t1 (tmIns Ns ky k a1) (va_up kb a1 k0) (va_up vl a1 v0) (va_up lf a1 none) (va_up (va_up rt a1 none) P9 (some a1)) (va_up pa a1 (some P9)) (va_up co a1 true) := tmE.s3 hE9 (v := some a1) hU13
    have hH15 := (hU13.n (gne_c (hF9 _ _ _ (hN3.n hM_0) (gno (hN3.ne hM_0) gno0)) (hE9 P9 hPm9) (by decide)) (hF9 _ _ _ (hN3.n hM_0) (gno (hN3.ne hM_0) gno0)))
    refine g_aload_n hC dJ9_addEntry_32 1 rfl gRef_r 33 rfl ?_
    refine g_aload hC dJ9_addEntry_33 0 rfl gRef_r 35 rfl ?_
    refine g_callv (g_V (As := [.ref a1]) (rest := []) hC mvJ9_fixAfterInsertion q1052 (gOf.of hC.K cI24 hH15) (met_TM_fixI l G M12 mp t0 cm r n mc ks t1 (tmIns Ns ky k a1) (va_up kb a1 k0) (va_up vl a1 v0) (va_up lf a1 none) (va_up (va_up rt a1 none) P9 (some a1)) (va_up pa a1 (some P9)) (va_up co a1 true) (kyR (va_up ky a1 k)) (va_up lo a1 (some P9)) (va_up hi a1 (hi P9)) a1 (hI.addR hP9 hxn hl hkP hat) hxm9 ht hH15 hE14) ⟨rfl, rfl⟩ ⟨(Nat.le_of_ble_eq_true rfl), (Nat.le_of_ble_eq_true rfl)⟩ rfl (Nat.le_of_ble_eq_true rfl) dJ9_addEntry_35 rfl ⟨(Nat.le_of_ble_eq_true rfl), (Nat.le_of_ble_eq_true rfl)⟩) 1 (Nat.le_of_ble_eq_true rfl) 6 (Nat.le_of_ble_eq_true rfl) 38 rfl (fun M16 k17 hp18 => ?_)
    obtain ⟨lf1_20, rt1_21, pa1_22, co1_23, r1_24, lo1_25, hi1_26, hc27, hpd28, hF29, hq30, hk31⟩ := hp18
    refine g_aload_n hC dJ9_addEntry_38 1 rfl gRef_r 39 rfl ?_
    refine g_dup hC dJ9_addEntry_39 rfl 40 rfl ?_
    refine g_get (v := .int (nI n)) hC cI24 hc27 4 (Nat.le_of_ble_eq_true rfl) q344 rfl dJ9_addEntry_40 43 rfl ?_
    refine g_iconst hC dJ9_addEntry_43 ki_1 44 rfl ?_
    refine g_iadd hC dJ9_addEntry_44 45 rfl ?_
    refine g_topi (y := nI (n + 1)) (nI_a (a := n) (b := 1) (c := (n + 1)) (by omega)) ?_
    refine g_put hC cI24 hc27 4 (Nat.le_of_ble_eq_true rfl) q344 rfl rfl rfl (Nat.le_of_ble_eq_true rfl) dJ9_addEntry_45 (fs' := [.null, .null, .ref cm, va_rf r1_24, .int (nI (n + 1)), .int mc, .null, va_rf ks, .null]) rfl 48 rfl (fun M32 hU33 => ?_)
    refine g_aload_n hC dJ9_addEntry_48 1 rfl gRef_r 49 rfl ?_
    refine g_dup hC dJ9_addEntry_49 rfl 50 rfl ?_
    refine g_get (v := .int mc) hC cI24 hU33.1 5 (Nat.le_of_ble_eq_true rfl) q346 rfl dJ9_addEntry_50 53 rfl ?_
    refine g_iconst hC dJ9_addEntry_53 ki_1 54 rfl ?_
    refine g_iadd hC dJ9_addEntry_54 55 rfl ?_
    refine g_put hC cI24 hU33.1 5 (Nat.le_of_ble_eq_true rfl) q346 rfl rfl rfl (Nat.le_of_ble_eq_true rfl) dJ9_addEntry_55 (fs' := [.null, .null, .ref cm, va_rf r1_24, .int (nI (n + 1)), .int (mc + 1), .null, va_rf ks, .null]) rfl 58 rfl (fun M34 hU35 => ?_)
    exact g_vret hC (fun k9 hk9 => ⟨a1, lf1_20, rt1_21, pa1_22, co1_23, r1_24, lo1_25, hi1_26, hU35.1, (tmE.fr hpd28 ((gFr.refl.up hU33 hc27 (show (fun t => ¬ (tgE t1.1 t1.2) t) t0 by (try simp only [ndT, tgE, gT, tgR, ndT9, tg0, Prod.mk.injEq]); first | done | omega | (simp; done))).up hU35 hU33.1 (show (fun t => ¬ (tgE t1.1 t1.2) t) t0 by (try simp only [ndT, tgE, gT, tgR, ndT9, tg0, Prod.mk.injEq]); first | done | omega | (simp; done)))), ((((((gFr.refl.nw hN3).trf hF9 (fun b t e hb hn => (gno (hN3.ne (gFr.refl b t e hb hn)) gno0))).up hU13 (hE9 P9 hPm9) (show (fun t => tgE t0.1 t0.2 t ∨ tgE t1.1 t1.2 t) t1 by (try simp only [ndT, tgE, gT, tgR, ndT9, tg0, Prod.mk.injEq]); first | done | omega | (simp; done))).trans (hF29.mono (fun b t h => by obtain ⟨u9, v9⟩ := t; revert h; (try simp only [ndT, tgE, gT, tgR, ndT9, tg0, Prod.mk.injEq]); first | done | omega | (simp; done) | (intro h; simp_all; done)))).up hU33 hc27 (show (fun t => tgE t0.1 t0.2 t ∨ tgE t1.1 t1.2 t) t0 by (try simp only [ndT, tgE, gT, tgR, ndT9, tg0, Prod.mk.injEq]); first | done | omega | (simp; done))).up hU35 hU33.1 (show (fun t => tgE t0.1 t0.2 t ∨ tgE t1.1 t1.2 t) t0 by (try simp only [ndT, tgE, gT, tgR, ndT9, tg0, Prod.mk.injEq]); first | done | omega | (simp; done))), hq30, hxn, (by first | exact Nat.le_zero.mp hk9 | omega)⟩) dJ9_addEntry_58 (Nat.le_of_ble_eq_true rfl) (Nat.le_of_ble_eq_true rfl)
  · exact absurd c_11 (by decide)
set_option maxHeartbeats 4000000 in
theorem met_TM_addEmpty (l : Launch) (G : gG) (M : gM) (mp : Nat) (t0 : Nat × Nat) (cm : Nat) (mc : Int32) (ks : Option Nat) (t1 : Nat × Nat) (k0 : Nat) (k : Int32) (v0 : Nat) (hk : gBox G M k0 k) (ht : ¬ (t0.1 = t1.1 ∧ t0.2 = t1.2)) (hM_0 : M mp = some (t0, .inr (24, [.null, .null, .ref cm, .null, .int (nI 0), .int mc, .null, va_rf ks, .null]))) (hM_1 : M cm = some ((0, 5), .inr (5, []))) : Met l yJ9_addEntryToEmptyMap (ws_ yJ9_addEntryToEmptyMap cJ9_addEntryToEmptyMap 3 none) ({ frames := 4, cells := 1, slots := 6, locals := 87 }) (gPc G [.ref mp, .ref k0, .ref v0] M) (gQv G (fun M9 k9 => ∃ x9 : Nat, M9 mp = some (t0, .inr (24, [.null, .null, .ref cm, .ref x9, .int (nI 1), .int (mc + 1), .null, va_rf ks, .null])) ∧ M9 x9 = some (t1, .inr (25, [.ref k0, .ref v0, .null, .null, .null, .int 1])) ∧ gFr (gL [mp]) M M9 ∧ M x9 = none ∧ k9 ≤ 1)) 1 6 (gA G) := by
  refine gMet [(0, .ref mp), (1, .ref k0), (2, .ref v0)] (by decide) (Nat.le_of_ble_eq_true rfl) rfl ?_
  intro p e s m below meth c hC
  refine g_aload_n hC dJ9_addEntryToEmptyMap_0 0 rfl gRef_r 1 rfl ?_
  refine g_aload_n hC dJ9_addEntryToEmptyMap_1 1 rfl gRef_r 2 rfl ?_
  refine g_aload_n hC dJ9_addEntryToEmptyMap_2 1 rfl gRef_r 3 rfl ?_
  refine g_calliP (g_V (As := [.ref k0, .ref k0]) (rest := []) hC mvJ9_compare q1012 (gOf.of hC.K cI24 hM_0) (met_TM_compare l G M mp t0 cm none 0 mc ks k0 k0 k k hk hk hM_0 hM_1) ⟨rfl, rfl⟩ ⟨(Nat.le_of_ble_eq_true rfl), (Nat.le_of_ble_eq_true rfl)⟩ rfl (Nat.le_of_ble_eq_true rfl) dJ9_addEntryToEmptyMap_3 rfl ⟨(Nat.le_of_ble_eq_true rfl), (Nat.le_of_ble_eq_true rfl)⟩) 6 rfl 0 (Nat.le_of_ble_eq_true rfl) ?_
  refine g_pop hC dJ9_addEntryToEmptyMap_6 rfl 7 rfl ?_
  refine g_aload_n hC dJ9_addEntryToEmptyMap_7 0 rfl gRef_r 8 rfl ?_
  refine g_new hC cI25 q1016 q1017 q136 df25 t1 (Nat.le_of_ble_eq_true rfl) (Nat.le_of_ble_eq_true rfl) 1 (Nat.le_of_ble_eq_true rfl) 6 (Nat.le_of_ble_eq_true rfl) dJ9_addEntryToEmptyMap_8 11 rfl (fun a1 M2 hN3 => ?_)
  refine g_dup hC dJ9_addEntryToEmptyMap_11 rfl 12 rfl ?_
  refine g_aload_n hC dJ9_addEntryToEmptyMap_12 1 rfl gRef_r 13 rfl ?_
  refine g_aload_n hC dJ9_addEntryToEmptyMap_13 2 rfl gRef_r 14 rfl ?_
  refine g_null hC dJ9_addEntryToEmptyMap_14 15 rfl ?_
  refine g_callv (g_I (As := [.ref k0, .ref v0, .null]) (rest := [.ref a1, .ref mp]) hC miJ21_init q1018 (met_TMe_init l G M2 a1 t1 k0 v0 none hN3.2.1) ⟨rfl, rfl⟩ ⟨(Nat.le_of_ble_eq_true rfl), (Nat.le_of_ble_eq_true rfl)⟩ rfl (Nat.le_of_ble_eq_true rfl) dJ9_addEntryToEmptyMap_15 rfl ⟨(Nat.le_of_ble_eq_true rfl), (Nat.le_of_ble_eq_true rfl)⟩) 1 (Nat.le_of_ble_eq_true rfl) 6 (Nat.le_of_ble_eq_true rfl) 18 rfl (fun M4 k5 hp6 => ?_)
  obtain ⟨hc8, hF9, hk10⟩ := hp6
  refine g_put hC cI24 (hF9 _ _ _ (hN3.n hM_0) (gno (hN3.ne hM_0) gno0)) 3 (Nat.le_of_ble_eq_true rfl) q343 rfl rfl rfl (Nat.le_of_ble_eq_true rfl) dJ9_addEntryToEmptyMap_18 (fs' := [.null, .null, .ref cm, .ref a1, .int (nI 0), .int mc, .null, va_rf ks, .null]) rfl 21 rfl (fun M11 hU12 => ?_)
  have hH13 := (hU12.n (Ne.symm (hN3.ne hM_0)) hc8)
  have hH14 := (hU12.n (gne_c (hF9 _ _ _ (hN3.n hM_1) (gno (hN3.ne hM_1) gno0)) (hF9 _ _ _ (hN3.n hM_0) (gno (hN3.ne hM_0) gno0)) (by decide)) (hF9 _ _ _ (hN3.n hM_1) (gno (hN3.ne hM_1) gno0)))
  refine g_aload_n hC dJ9_addEntryToEmptyMap_21 0 rfl gRef_r 22 rfl ?_
  refine g_iconst hC dJ9_addEntryToEmptyMap_22 ki_1 23 rfl ?_
  refine g_put hC cI24 hU12.1 4 (Nat.le_of_ble_eq_true rfl) q344 rfl rfl rfl (Nat.le_of_ble_eq_true rfl) dJ9_addEntryToEmptyMap_23 (fs' := [.null, .null, .ref cm, .ref a1, .int 1, .int mc, .null, va_rf ks, .null]) rfl 26 rfl (fun M15 hU16 => ?_)
  refine g_aload_n hC dJ9_addEntryToEmptyMap_26 0 rfl gRef_r 27 rfl ?_
  refine g_dup hC dJ9_addEntryToEmptyMap_27 rfl 28 rfl ?_
  refine g_get (v := .int mc) hC cI24 hU16.1 5 (Nat.le_of_ble_eq_true rfl) q346 rfl dJ9_addEntryToEmptyMap_28 31 rfl ?_
  refine g_iconst hC dJ9_addEntryToEmptyMap_31 ki_1 32 rfl ?_
  refine g_iadd hC dJ9_addEntryToEmptyMap_32 33 rfl ?_
  refine g_put hC cI24 hU16.1 5 (Nat.le_of_ble_eq_true rfl) q346 rfl rfl rfl (Nat.le_of_ble_eq_true rfl) dJ9_addEntryToEmptyMap_33 (fs' := [.null, .null, .ref cm, .ref a1, .int 1, .int (mc + 1), .null, va_rf ks, .null]) rfl 36 rfl (fun M17 hU18 => ?_)
  exact g_vret hC (fun k9 hk9 => ⟨a1, (by rw [hU18.1]; all_goals (first | rfl | (simp only [if_true, if_false, true_and, and_true, false_and, and_false, true_or, or_true, false_or, or_false, not_true_eq_false, not_false_eq_true, reduceIte, decide_true, decide_false, Bool.false_eq_true]; done) | (simp only [if_true, if_false, true_and, and_true, false_and, and_false, true_or, or_true, false_or, or_false, not_true_eq_false, not_false_eq_true, reduceIte, decide_true, decide_false, Bool.false_eq_true]; rfl) | (simp only [if_true, if_false, true_and, and_true, false_and, and_false, true_or, or_true, false_or, or_false, not_true_eq_false, not_false_eq_true, reduceIte, decide_true, decide_false, Bool.false_eq_true]; done) | (simp only []; simp only [if_true, if_false, true_and, and_true, false_and, and_false, true_or, or_true, false_or, or_false, not_true_eq_false, not_false_eq_true, reduceIte, decide_true, decide_false, Bool.false_eq_true]; done) | (simp only []; simp only [if_true, if_false, true_and, and_true, false_and, and_false, true_or, or_true, false_or, or_false, not_true_eq_false, not_false_eq_true, reduceIte, decide_true, decide_false, Bool.false_eq_true]; done) | (simp only []; simp only [if_true, if_false, true_and, and_true, false_and, and_false, true_or, or_true, false_or, or_false, not_true_eq_false, not_false_eq_true, reduceIte, decide_true, decide_false, Bool.false_eq_true]; simp only []; done) | (simp only [if_true, if_false, true_and, and_true, false_and, and_false, true_or, or_true, false_or, or_false, not_true_eq_false, not_false_eq_true, reduceIte, decide_true, decide_false, Bool.false_eq_true]; rfl) | (simp only []; simp only [if_true, if_false, true_and, and_true, false_and, and_false, true_or, or_true, false_or, or_false, not_true_eq_false, not_false_eq_true, reduceIte, decide_true, decide_false, Bool.false_eq_true]; rfl) | (simp only []; rfl) | (simp only [if_true, if_false, true_and, and_true, false_and, and_false, true_or, or_true, false_or, or_false, not_true_eq_false, not_false_eq_true, reduceIte, decide_true, decide_false, Bool.false_eq_true]; rfl) | (simp_all []; done))), (hU18.n (Ne.symm (hN3.ne hM_0)) (hU16.n (Ne.symm (hN3.ne hM_0)) hH13)), (((((gFr.refl.nw hN3).trf hF9 (fun b t e hb hn => (gno (hN3.ne (gFr.refl b t e hb hn)) gno0))).up hU12 (hF9 _ _ _ (hN3.n hM_0) (gno (hN3.ne hM_0) gno0)) (by simp)).up hU16 hU12.1 (by simp)).up hU18 hU16.1 (by simp)), hN3.1, (by first | exact Nat.le_zero.mp hk9 | omega)⟩) dJ9_addEntryToEmptyMap_36 (Nat.le_of_ble_eq_true rfl) (Nat.le_of_ble_eq_true rfl)
set_option maxHeartbeats 4000000 in
theorem met_TM_put_e (l : Launch) (G : gG) (M : gM) (mp : Nat) (t0 : Nat × Nat) (cm : Nat) (mc : Int32) (ks : Option Nat) (t1 : Nat × Nat) (k0 : Nat) (k : Int32) (v0 : Nat) (hk : gBox G M k0 k) (ht : ¬ (t0.1 = t1.1 ∧ t0.2 = t1.2)) (hM_0 : M mp = some (t0, .inr (24, [.null, .null, .ref cm, .null, .int (nI 0), .int mc, .null, va_rf ks, .null]))) (hM_1 : M cm = some ((0, 5), .inr (5, []))) : Met l yJ9_put_2 (ws_ yJ9_put_2 cJ9_put_2 10 (some (.object "java/lang/Object"))) ({ frames := 14, cells := 1, slots := 6, locals := 360 }) (gPc G [.ref mp, .ref k0, .ref v0, .int 1] M) (gQq G (fun r9 M9 k9 => ∃ x9 : Nat, r9 = none ∧ M9 mp = some (t0, .inr (24, [.null, .null, .ref cm, .ref x9, .int (nI 1), .int (mc + 1), .null, va_rf ks, .null])) ∧ M9 x9 = some (t1, .inr (25, [.ref k0, .ref v0, .null, .null, .null, .int 1])) ∧ gFr (gL [mp]) M M9 ∧ M x9 = none ∧ k9 ≤ 1)) 1 6 (gA G) := by
  refine gMet [(0, .ref mp), (1, .ref k0), (2, .ref v0), (3, .int 1)] (by decide) (Nat.le_of_ble_eq_true rfl) rfl ?_
  intro p e s m below meth c hC
  refine g_aload_n hC dJ9_put_2_0 0 rfl gRef_r 1 rfl ?_
  refine g_get (v := .null) hC cI24 hM_0 3 (Nat.le_of_ble_eq_true rfl) q343 rfl dJ9_put_2_1 4 rfl ?_
  refine g_astore hC dJ9_put_2_4 gRef_n (Nat.le_of_ble_eq_true rfl) [(4, .null), (0, .ref mp), (1, .ref k0), (2, .ref v0), (3, .int 1)] rfl 6 rfl ?_
  refine g_aload hC dJ9_put_2_6 0 rfl gRef_n 8 rfl ?_
  refine g_ifnonnull (r := none) hC dJ9_put_2_8 19 rfl 11 rfl (fun _ q => by cases q) (fun _ => ?_)
  refine g_aload_n hC dJ9_put_2_11 1 rfl gRef_r 12 rfl ?_
  refine g_aload_n hC dJ9_put_2_12 2 rfl gRef_r 13 rfl ?_
  refine g_aload_n hC dJ9_put_2_13 3 rfl gRef_r 14 rfl ?_
  refine g_callv (g_V (As := [.ref k0, .ref v0]) (rest := []) hC mvJ9_addEntryToEmptyMap q1008 (gOf.of hC.K cI24 hM_0) (met_TM_addEmpty l G M mp t0 cm mc ks t1 k0 k v0 hk ht hM_0 hM_1) ⟨rfl, rfl⟩ ⟨(Nat.le_of_ble_eq_true rfl), (Nat.le_of_ble_eq_true rfl)⟩ rfl (Nat.le_of_ble_eq_true rfl) dJ9_put_2_14 rfl ⟨(Nat.le_of_ble_eq_true rfl), (Nat.le_of_ble_eq_true rfl)⟩) 1 (Nat.le_of_ble_eq_true rfl) 6 (Nat.le_of_ble_eq_true rfl) 17 rfl (fun M2 k3 hp4 => ?_)
  obtain ⟨x9_6, hc7, hc8, hF9, hq10, hk11⟩ := hp4
  refine g_null hC dJ9_put_2_17 18 rfl ?_
  exact g_aret (v := none) hC (by first | exact Or.inl ⟨_, rfl⟩ | exact Or.inr ⟨_, rfl⟩) (fun k9 hk9 => ⟨x9_6, rfl, hc7, hc8, (gFr.refl.trans (hF9.mono (by intro b t hb; simp at hb ⊢; first | done | (rcases hb with rfl | rfl | rfl | rfl <;> simp) | (simp [hb]; done)))), hq10, (by first | exact Nat.le_zero.mp hk9 | omega)⟩) dJ9_put_2_18 (Nat.le_of_ble_eq_true rfl) (Nat.le_of_ble_eq_true rfl)
set_option maxHeartbeats 4000000 in
theorem met_TM_put_n (l : Launch) (G : gG) (M : gM) (mp : Nat) (t0 : Nat × Nat) (cm : Nat) (r : Option Nat) (n : Nat) (mc : Int32) (ks : Option Nat) (t1 : Nat × Nat) (Ns : List Nat) (kb : Nat → Nat) (vl : Nat → Nat) (lf : Nat → Option Nat) (rt : Nat → Option Nat) (pa : Nat → Option Nat) (co : Nat → Bool) (ky : Nat → Int32) (lo : Nat → Option Nat) (hi : Nat → Option Nat) (k0 : Nat) (k : Int32) (v0 : Nat) (z9 : Nat) (hI : tmI r Ns (kyR ky) lf rt pa lo hi) (hS : tmS Ns ky) (ht : ¬ (t0.1 = t1.1 ∧ t0.2 = t1.2)) (ht0 : t0.1 ≠ 0) (ht1 : t1.1 ≠ 0) (hne0 : z9 ∈ Ns) (habs : ∀ c, c ∈ Ns → ky c ≠ k) (hM_0 : M mp = some (t0, .inr (24, [.null, .null, .ref cm, va_rf r, .int (nI n), .int mc, .null, va_rf ks, .null]))) (hM_1 : M cm = some ((0, 5), .inr (5, []))) (hP_0 : tmE M t1 Ns kb vl lf rt pa co) (hP_1 : tmB M G Ns kb ky) (hP_2 : bxP M G k0 k) : Met l yJ9_put_2 (ws_ yJ9_put_2 cJ9_put_2 10 (some (.object "java/lang/Object"))) ({ frames := 14, cells := 1, slots := 6, locals := 360 }) (gPc G [.ref mp, .ref k0, .ref v0, .int 1] M) (gQq G (fun r9 M9 k9 => ∃ x9 : Nat, ∃ lf1 : Nat → Option Nat, ∃ rt1 : Nat → Option Nat, ∃ pa1 : Nat → Option Nat, ∃ co1 : Nat → Bool, ∃ r1 : Option Nat, ∃ lo1 : Nat → Option Nat, ∃ hi1 : Nat → Option Nat, r9 = none ∧ M9 mp = some (t0, .inr (24, [.null, .null, .ref cm, va_rf r1, .int (nI (n + 1)), .int (mc + 1), .null, va_rf ks, .null])) ∧ tmE M9 t1 (tmIns Ns ky k x9) (va_up kb x9 k0) (va_up vl x9 v0) lf1 rt1 pa1 co1 ∧ gFr (gT (fun t => tgE t0.1 t0.2 t ∨ tgE t1.1 t1.2 t)) M M9 ∧ tmI r1 (tmIns Ns ky k x9) (kyR (va_up ky x9 k)) lf1 rt1 pa1 lo1 hi1 ∧ x9 ∉ Ns ∧ k9 ≤ 1)) 1 6 (gA G) := by
  refine gMet [(0, .ref mp), (1, .ref k0), (2, .ref v0), (3, .int 1)] (by decide) (Nat.le_of_ble_eq_true rfl) rfl ?_
  intro p e s m below meth c hC
  refine g_aload_n hC dJ9_put_2_0 0 rfl gRef_r 1 rfl ?_
  refine g_get (v := va_rf r) hC cI24 hM_0 3 (Nat.le_of_ble_eq_true rfl) q343 rfl dJ9_put_2_1 4 rfl ?_
  obtain ⟨r9, hr, hrm⟩ := hI.rt0 hne0
  refine g_topv (y := .ref r9) (by rw [hr]; rfl) ?_
  refine g_astore hC dJ9_put_2_4 gRef_r (Nat.le_of_ble_eq_true rfl) [(4, .ref r9), (0, .ref mp), (1, .ref k0), (2, .ref v0), (3, .int 1)] rfl 6 rfl ?_
  refine g_aload hC dJ9_put_2_6 0 rfl gRef_r 8 rfl ?_
  refine g_ifnonnull (r := some r9) hC dJ9_put_2_8 19 rfl 11 rfl (fun _ _ => ?_) (fun q => by cases q)
  refine g_aload_n hC dJ9_put_2_19 1 rfl gRef_r 20 rfl ?_
  refine g_get (v := .ref cm) hC cI24 hM_0 2 (Nat.le_of_ble_eq_true rfl) q342 rfl dJ9_put_2_20 23 rfl ?_
  refine g_astore hC dJ9_put_2_23 gRef_r (Nat.le_of_ble_eq_true rfl) [(7, .ref cm), (4, .ref r9), (0, .ref mp), (1, .ref k0), (2, .ref v0), (3, .int 1)] rfl 25 rfl ?_
  refine g_aload hC dJ9_put_2_25 0 rfl gRef_r 27 rfl ?_
  refine g_ifnull (r := some cm) hC dJ9_put_2_27 112 rfl 30 rfl (fun q => by cases q) (fun _ _ => ?_)
  have loop30 : ∀ (n9 : Nat) (a : Nat) (ML : gM), (ham : a ∈ Ns) → (hat : atK ky lo hi a k) → tmw Ns (kyR ky) lo hi a < n9 → (ML mp = some (t0, .inr (24, [.null, .null, .ref cm, va_rf r, .int (nI n), .int mc, .null, va_rf ks, .null]))) → (ML cm = some ((0, 5), .inr (5, []))) → (tmE ML t1 Ns kb vl lf rt pa co) → (tmB ML G Ns kb ky) → (bxP ML G k0 k) → gFr (gT (fun t => tgE t0.1 t0.2 t ∨ tgE t1.1 t1.2 t)) M ML → gJ p l e ({ frames := 14, cells := 1, slots := 6, locals := 360 } : Room) s m ([.ref mp, .ref k0, .ref v0, .int 1] : List Value).toArray below meth c G 10 (MQ below (gQq G (fun r9 M9 k9 => ∃ x9 : Nat, ∃ lf1 : Nat → Option Nat, ∃ rt1 : Nat → Option Nat, ∃ pa1 : Nat → Option Nat, ∃ co1 : Nat → Bool, ∃ r1 : Option Nat, ∃ lo1 : Nat → Option Nat, ∃ hi1 : Nat → Option Nat, r9 = none ∧ M9 mp = some (t0, .inr (24, [.null, .null, .ref cm, va_rf r1, .int (nI (n + 1)), .int (mc + 1), .null, va_rf ks, .null])) ∧ tmE M9 t1 (tmIns Ns ky k x9) (va_up kb x9 k0) (va_up vl x9 v0) lf1 rt1 pa1 co1 ∧ gFr (gT (fun t => tgE t0.1 t0.2 t ∨ tgE t1.1 t1.2 t)) M M9 ∧ tmI r1 (tmIns Ns ky k x9) (kyR (va_up ky x9 k)) lf1 rt1 pa1 lo1 hi1 ∧ x9 ∉ Ns ∧ k9 ≤ 1)) ([.ref mp, .ref k0, .ref v0, .int 1] : List Value).toArray s 1 6 (gA G)) 0 0 ML 30 [(0, .ref mp), (1, .ref k0), (2, .ref v0), (3, .int 1), (4, .ref a), (7, .ref cm)] [] := by
    intro n9
    induction n9 with
    | zero => intro a ML ham hat hmu; exact absurd hmu (Nat.not_lt_zero _)
    | succ n9 ih =>
      intro a ML ham hat hmu hL_0 hL_1 hLp_0 hLp_1 hLp_2 hLF
      refine g_aload hC dJ9_put_2_30 4 rfl gRef_r 32 rfl ?_
      refine g_astore hC dJ9_put_2_32 gRef_r (Nat.le_of_ble_eq_true rfl) [(6, .ref a), (0, .ref mp), (1, .ref k0), (2, .ref v0), (3, .int 1), (4, .ref a), (7, .ref cm)] rfl 34 rfl ?_
      refine g_aload hC dJ9_put_2_34 6 rfl gRef_r 36 rfl ?_
      refine g_aload_n hC dJ9_put_2_36 2 rfl gRef_r 37 rfl ?_
      refine g_aload hC dJ9_put_2_37 5 rfl gRef_r 39 rfl ?_
      refine g_get (v := .ref (kb a)) hC cI25 (hLp_0 a ham) 0 (Nat.le_of_ble_eq_true rfl) q1024 rfl dJ9_put_2_39 42 rfl ?_
      refine g_callFiP (g_F (n := 2) (As := [.ref k0, .ref (kb a)]) (rest := []) hC ⟨by decide +kernel, q607, q609, q118, q611, by decide +kernel⟩ q603 (gOf.of hC.K cI5 hL_1) (hC.at cI5) (met_byId l G ML cm (0, 5) k0 (kb a) k (ky a) hLp_2 (hLp_1 a ham) hL_1) ⟨rfl, rfl⟩ ⟨(Nat.le_of_ble_eq_true rfl), (Nat.le_of_ble_eq_true rfl)⟩ rfl (Nat.le_of_ble_eq_true rfl) dJ9_put_2_42 rfl ⟨(Nat.le_of_ble_eq_true rfl), (Nat.le_of_ble_eq_true rfl)⟩) 47 rfl 0 (Nat.le_of_ble_eq_true rfl) ?_
      refine g_istore hC dJ9_put_2_47 (Nat.le_of_ble_eq_true rfl) [(5, .int (cmpI k (ky a))), (6, .ref a), (0, .ref mp), (1, .ref k0), (2, .ref v0), (3, .int 1), (4, .ref a), (7, .ref cm)] rfl 49 rfl ?_
      refine g_iload hC dJ9_put_2_49 0 rfl 51 rfl ?_
      refine g_if_ge hC dJ9_put_2_51 64 rfl 54 rfl (fun c_3 => ?_) (fun c_3 => ?_)
      · refine g_iload hC dJ9_put_2_64 0 rfl 66 rfl ?_
        refine g_if_le hC dJ9_put_2_66 79 rfl 69 rfl (fun c_4 => ?_) (fun c_4 => ?_)
        · exact absurd (show ky a = k by have h1 := Int32.not_lt.mpr c_3; have h2 := Int32.not_lt.mpr c_4; rw [cmpI_lt] at h1; rw [cmpI_gt] at h2; exact (Int32.le_antisymm (Int32.not_lt.mp h1) (Int32.not_lt.mp h2))) (habs a ham)
        · refine g_aload hC dJ9_put_2_69 6 rfl gRef_r 71 rfl ?_
          refine g_get (v := va_rf (rt a)) hC cI25 (hLp_0 a ham) 3 (Nat.le_of_ble_eq_true rfl) q1030 rfl dJ9_put_2_71 74 rfl ?_
          refine g_astore hC dJ9_put_2_74 gRef_q (Nat.le_of_ble_eq_true rfl) [(4, va_rf (rt a)), (5, .int (cmpI k (ky a))), (6, .ref a), (0, .ref mp), (1, .ref k0), (2, .ref v0), (3, .int 1), (7, .ref cm)] rfl 76 rfl ?_
          refine g_goto hC dJ9_put_2_76 104 rfl ?_
          refine g_aload hC dJ9_put_2_104 0 rfl gRef_q 106 rfl ?_
          refine g_ifnonnull hC dJ9_put_2_106 30 rfl 109 rfl (fun x_5 e_6 => ?_) (fun e_6 => ?_)
          · refine g_lv (lv' := [(4, .ref x_5), (5, .int (cmpI k (ky a))), (6, .ref a), (0, .ref mp), (1, .ref k0), (2, .ref v0), (3, .int 1), (7, .ref cm)]) (by rw [e_6]; rfl) ?_
            have hxm : x_5 ∈ Ns := (hI.rtm ham e_6).1
            refine gJ.sub (M' := ML) [3, 4, 5, 6, 0, 7] rfl ?_
            exact ih x_5 ML hxm ((hI.atRR ham e_6).2.2 hat (cmpI_gt.mp (Int32.not_le.mp c_4))) (Nat.lt_of_lt_of_le (hI.wR ham e_6) (Nat.le_of_lt_succ hmu)) hL_0 hL_1 hLp_0 hLp_1 hLp_2 hLF
          · refine g_lv (lv' := [(4, .null), (5, .int (cmpI k (ky a))), (6, .ref a), (0, .ref mp), (1, .ref k0), (2, .ref v0), (3, .int 1), (7, .ref cm)]) (by rw [e_6]; rfl) ?_
            refine g_goto hC dJ9_put_2_109 201 rfl ?_
            refine g_aload_n hC dJ9_put_2_201 3 rfl gRef_r 202 rfl ?_
            refine g_aload_n hC dJ9_put_2_202 4 rfl gRef_r 203 rfl ?_
            refine g_aload_n hC dJ9_put_2_203 5 rfl gRef_r 204 rfl ?_
            refine g_aload hC dJ9_put_2_204 2 rfl gRef_r 206 rfl ?_
            refine g_iload hC dJ9_put_2_206 1 rfl 208 rfl ?_
            refine g_if_ge hC dJ9_put_2_208 215 rfl 211 rfl (fun c_7 => ?_) (fun c_7 => ?_)
            · refine g_iconst hC dJ9_put_2_215 ki_0 216 rfl ?_
              refine g_callv (g_V (As := [.ref k0, .ref v0, .ref a, .int 0]) (rest := []) hC mvJ9_addEntry q1048 (gOf.of hC.K cI24 hL_0) (met_TM_addEntryR l G ML mp t0 cm r n mc ks t1 Ns kb vl lf rt pa co ky lo hi k0 k v0 a hI ham e_6 (cmpI_gt.mp (Int32.not_le.mp c_4)) hat ht ht0 ht1 hL_0 hLp_0) ⟨rfl, rfl⟩ ⟨(Nat.le_of_ble_eq_true rfl), (Nat.le_of_ble_eq_true rfl)⟩ rfl (Nat.le_of_ble_eq_true rfl) dJ9_put_2_216 rfl ⟨(Nat.le_of_ble_eq_true rfl), (Nat.le_of_ble_eq_true rfl)⟩) 1 (Nat.le_of_ble_eq_true rfl) 6 (Nat.le_of_ble_eq_true rfl) 219 rfl (fun M8 k9 hp10 => ?_)
              obtain ⟨x9_12, lf1_13, rt1_14, pa1_15, co1_16, r1_17, lo1_18, hi1_19, hc20, hpd21, hF22, hq23, hq24, hk25⟩ := hp10
              refine g_null hC dJ9_put_2_219 220 rfl ?_
              exact g_aret (v := none) hC (by first | exact Or.inl ⟨_, rfl⟩ | exact Or.inr ⟨_, rfl⟩) (fun k9 hk9 => ⟨x9_12, lf1_13, rt1_14, pa1_15, co1_16, r1_17, lo1_18, hi1_19, rfl, hc20, hpd21, (hLF.trans (gFr.refl.trans (hF22.mono (fun b t h => by obtain ⟨u9, v9⟩ := t; revert h; (try simp only [ndT, tgE, gT, tgR, ndT9, tg0, Prod.mk.injEq]); first | done | omega | (simp; done) | (intro h; simp_all; done))))), hq23, hq24, (by first | exact Nat.le_zero.mp hk9 | omega)⟩) dJ9_put_2_220 (Nat.le_of_ble_eq_true rfl) (Nat.le_of_ble_eq_true rfl)
            · exact absurd c_3 c_7
      · refine g_aload hC dJ9_put_2_54 6 rfl gRef_r 56 rfl ?_
        refine g_get (v := va_rf (lf a)) hC cI25 (hLp_0 a ham) 2 (Nat.le_of_ble_eq_true rfl) q1028 rfl dJ9_put_2_56 59 rfl ?_
        refine g_astore hC dJ9_put_2_59 gRef_q (Nat.le_of_ble_eq_true rfl) [(4, va_rf (lf a)), (5, .int (cmpI k (ky a))), (6, .ref a), (0, .ref mp), (1, .ref k0), (2, .ref v0), (3, .int 1), (7, .ref cm)] rfl 61 rfl ?_
        refine g_goto hC dJ9_put_2_61 104 rfl ?_
        refine g_aload hC dJ9_put_2_104 0 rfl gRef_q 106 rfl ?_
        refine g_ifnonnull hC dJ9_put_2_106 30 rfl 109 rfl (fun x_26 e_27 => ?_) (fun e_27 => ?_)
        · refine g_lv (lv' := [(4, .ref x_26), (5, .int (cmpI k (ky a))), (6, .ref a), (0, .ref mp), (1, .ref k0), (2, .ref v0), (3, .int 1), (7, .ref cm)]) (by rw [e_27]; rfl) ?_
          have hxm : x_26 ∈ Ns := (hI.lfm ham e_27).1
          refine gJ.sub (M' := ML) [3, 4, 5, 6, 0, 7] rfl ?_
          exact ih x_26 ML hxm ((hI.atLL ham e_27).2.2 hat (cmpI_lt.mp (Int32.not_le.mp c_3))) (Nat.lt_of_lt_of_le (hI.wL ham e_27) (Nat.le_of_lt_succ hmu)) hL_0 hL_1 hLp_0 hLp_1 hLp_2 hLF
        · refine g_lv (lv' := [(4, .null), (5, .int (cmpI k (ky a))), (6, .ref a), (0, .ref mp), (1, .ref k0), (2, .ref v0), (3, .int 1), (7, .ref cm)]) (by rw [e_27]; rfl) ?_
          refine g_goto hC dJ9_put_2_109 201 rfl ?_
          refine g_aload_n hC dJ9_put_2_201 3 rfl gRef_r 202 rfl ?_
          refine g_aload_n hC dJ9_put_2_202 4 rfl gRef_r 203 rfl ?_
          refine g_aload_n hC dJ9_put_2_203 5 rfl gRef_r 204 rfl ?_
          refine g_aload hC dJ9_put_2_204 2 rfl gRef_r 206 rfl ?_
          refine g_iload hC dJ9_put_2_206 1 rfl 208 rfl ?_
          refine g_if_ge hC dJ9_put_2_208 215 rfl 211 rfl (fun c_28 => ?_) (fun c_28 => ?_)
          · exact absurd c_28 c_3
          · refine g_iconst hC dJ9_put_2_211 ki_1 212 rfl ?_
            refine g_goto hC dJ9_put_2_212 216 rfl ?_
            refine g_callv (g_V (As := [.ref k0, .ref v0, .ref a, .int 1]) (rest := []) hC mvJ9_addEntry q1048 (gOf.of hC.K cI24 hL_0) (met_TM_addEntryL l G ML mp t0 cm r n mc ks t1 Ns kb vl lf rt pa co ky lo hi k0 k v0 a hI ham e_27 (cmpI_lt.mp (Int32.not_le.mp c_28)) hat ht ht0 ht1 hL_0 hLp_0) ⟨rfl, rfl⟩ ⟨(Nat.le_of_ble_eq_true rfl), (Nat.le_of_ble_eq_true rfl)⟩ rfl (Nat.le_of_ble_eq_true rfl) dJ9_put_2_216 rfl ⟨(Nat.le_of_ble_eq_true rfl), (Nat.le_of_ble_eq_true rfl)⟩) 1 (Nat.le_of_ble_eq_true rfl) 6 (Nat.le_of_ble_eq_true rfl) 219 rfl (fun M29 k30 hp31 => ?_)
            obtain ⟨x9_33, lf1_34, rt1_35, pa1_36, co1_37, r1_38, lo1_39, hi1_40, hc41, hpd42, hF43, hq44, hq45, hk46⟩ := hp31
            refine g_null hC dJ9_put_2_219 220 rfl ?_
            exact g_aret (v := none) hC (by first | exact Or.inl ⟨_, rfl⟩ | exact Or.inr ⟨_, rfl⟩) (fun k9 hk9 => ⟨x9_33, lf1_34, rt1_35, pa1_36, co1_37, r1_38, lo1_39, hi1_40, rfl, hc41, hpd42, (hLF.trans (gFr.refl.trans (hF43.mono (fun b t h => by obtain ⟨u9, v9⟩ := t; revert h; (try simp only [ndT, tgE, gT, tgR, ndT9, tg0, Prod.mk.injEq]); first | done | omega | (simp; done) | (intro h; simp_all; done))))), hq44, hq45, (by first | exact Nat.le_zero.mp hk9 | omega)⟩) dJ9_put_2_220 (Nat.le_of_ble_eq_true rfl) (Nat.le_of_ble_eq_true rfl)
  refine gJ.sub (M' := M) [2, 3, 4, 5, 1, 0] rfl ?_
  exact loop30 _ r9 M hrm ((hI.root hr k).2.2) (Nat.lt_succ_self _) hM_0 hM_1 hP_0 hP_1 hP_2 gFr.refl
set_option maxHeartbeats 4000000 in
theorem met_TM_put_r (l : Launch) (G : gG) (M : gM) (mp : Nat) (t0 : Nat × Nat) (cm : Nat) (r : Option Nat) (n : Nat) (mc : Int32) (ks : Option Nat) (t1 : Nat × Nat) (Ns : List Nat) (kb : Nat → Nat) (vl : Nat → Nat) (lf : Nat → Option Nat) (rt : Nat → Option Nat) (pa : Nat → Option Nat) (co : Nat → Bool) (ky : Nat → Int32) (lo : Nat → Option Nat) (hi : Nat → Option Nat) (k0 : Nat) (k : Int32) (v0 : Nat) (a0 : Nat) (hI : tmI r Ns (kyR ky) lf rt pa lo hi) (hS : tmS Ns ky) (ht : ¬ (t0.1 = t1.1 ∧ t0.2 = t1.2)) (ht0 : t0.1 ≠ 0) (ht1 : t1.1 ≠ 0) (ha0 : a0 ∈ Ns) (ha0k : ky a0 = k) (hM_0 : M mp = some (t0, .inr (24, [.null, .null, .ref cm, va_rf r, .int (nI n), .int mc, .null, va_rf ks, .null]))) (hM_1 : M cm = some ((0, 5), .inr (5, []))) (hP_0 : tmE M t1 Ns kb vl lf rt pa co) (hP_1 : tmB M G Ns kb ky) (hP_2 : bxP M G k0 k) : Met l yJ9_put_2 (ws_ yJ9_put_2 cJ9_put_2 10 (some (.object "java/lang/Object"))) ({ frames := 14, cells := 1, slots := 6, locals := 360 }) (gPc G [.ref mp, .ref k0, .ref v0, .int 1] M) (gQq G (fun r9 M9 k9 => r9 = (some (vl a0)) ∧ M9 mp = some (t0, .inr (24, [.null, .null, .ref cm, va_rf r, .int (nI n), .int mc, .null, va_rf ks, .null])) ∧ tmE M9 t1 Ns kb (va_up vl a0 v0) lf rt pa co ∧ gFr (gT (tgE t1.1 t1.2)) M M9 ∧ k9 = 0)) 1 6 (gA G) := by
  refine gMet [(0, .ref mp), (1, .ref k0), (2, .ref v0), (3, .int 1)] (by decide) (Nat.le_of_ble_eq_true rfl) rfl ?_
  intro p e s m below meth c hC
  refine g_aload_n hC dJ9_put_2_0 0 rfl gRef_r 1 rfl ?_
  refine g_get (v := va_rf r) hC cI24 hM_0 3 (Nat.le_of_ble_eq_true rfl) q343 rfl dJ9_put_2_1 4 rfl ?_
  have hne0 := ha0
  obtain ⟨r9, hr, hrm⟩ := hI.rt0 hne0
  refine g_topv (y := .ref r9) (by rw [hr]; rfl) ?_
  refine g_astore hC dJ9_put_2_4 gRef_r (Nat.le_of_ble_eq_true rfl) [(4, .ref r9), (0, .ref mp), (1, .ref k0), (2, .ref v0), (3, .int 1)] rfl 6 rfl ?_
  refine g_aload hC dJ9_put_2_6 0 rfl gRef_r 8 rfl ?_
  refine g_ifnonnull (r := some r9) hC dJ9_put_2_8 19 rfl 11 rfl (fun _ _ => ?_) (fun q => by cases q)
  refine g_aload_n hC dJ9_put_2_19 1 rfl gRef_r 20 rfl ?_
  refine g_get (v := .ref cm) hC cI24 hM_0 2 (Nat.le_of_ble_eq_true rfl) q342 rfl dJ9_put_2_20 23 rfl ?_
  refine g_astore hC dJ9_put_2_23 gRef_r (Nat.le_of_ble_eq_true rfl) [(7, .ref cm), (4, .ref r9), (0, .ref mp), (1, .ref k0), (2, .ref v0), (3, .int 1)] rfl 25 rfl ?_
  refine g_aload hC dJ9_put_2_25 0 rfl gRef_r 27 rfl ?_
  refine g_ifnull (r := some cm) hC dJ9_put_2_27 112 rfl 30 rfl (fun q => by cases q) (fun _ _ => ?_)
  have loop30 : ∀ (n9 : Nat) (a : Nat) (ML : gM), (ham : a ∈ Ns) → (hin : inI (kyR ky) lo hi a a0) → tmw Ns (kyR ky) lo hi a < n9 → (ML mp = some (t0, .inr (24, [.null, .null, .ref cm, va_rf r, .int (nI n), .int mc, .null, va_rf ks, .null]))) → (ML cm = some ((0, 5), .inr (5, []))) → (tmE ML t1 Ns kb vl lf rt pa co) → (tmB ML G Ns kb ky) → (bxP ML G k0 k) → gFr (gT (tgE t1.1 t1.2)) M ML → gJ p l e ({ frames := 14, cells := 1, slots := 6, locals := 360 } : Room) s m ([.ref mp, .ref k0, .ref v0, .int 1] : List Value).toArray below meth c G 10 (MQ below (gQq G (fun r9 M9 k9 => r9 = (some (vl a0)) ∧ M9 mp = some (t0, .inr (24, [.null, .null, .ref cm, va_rf r, .int (nI n), .int mc, .null, va_rf ks, .null])) ∧ tmE M9 t1 Ns kb (va_up vl a0 v0) lf rt pa co ∧ gFr (gT (tgE t1.1 t1.2)) M M9 ∧ k9 = 0)) ([.ref mp, .ref k0, .ref v0, .int 1] : List Value).toArray s 1 6 (gA G)) 0 0 ML 30 [(0, .ref mp), (1, .ref k0), (2, .ref v0), (3, .int 1), (4, .ref a), (7, .ref cm)] [] := by
    intro n9
    induction n9 with
    | zero => intro a ML ham hin hmu; exact absurd hmu (Nat.not_lt_zero _)
    | succ n9 ih =>
      intro a ML ham hin hmu hL_0 hL_1 hLp_0 hLp_1 hLp_2 hLF
      refine g_aload hC dJ9_put_2_30 4 rfl gRef_r 32 rfl ?_
      refine g_astore hC dJ9_put_2_32 gRef_r (Nat.le_of_ble_eq_true rfl) [(6, .ref a), (0, .ref mp), (1, .ref k0), (2, .ref v0), (3, .int 1), (4, .ref a), (7, .ref cm)] rfl 34 rfl ?_
      refine g_aload hC dJ9_put_2_34 6 rfl gRef_r 36 rfl ?_
      refine g_aload_n hC dJ9_put_2_36 2 rfl gRef_r 37 rfl ?_
      refine g_aload hC dJ9_put_2_37 5 rfl gRef_r 39 rfl ?_
      refine g_get (v := .ref (kb a)) hC cI25 (hLp_0 a ham) 0 (Nat.le_of_ble_eq_true rfl) q1024 rfl dJ9_put_2_39 42 rfl ?_
      refine g_callFiP (g_F (n := 2) (As := [.ref k0, .ref (kb a)]) (rest := []) hC ⟨by decide +kernel, q607, q609, q118, q611, by decide +kernel⟩ q603 (gOf.of hC.K cI5 hL_1) (hC.at cI5) (met_byId l G ML cm (0, 5) k0 (kb a) k (ky a) hLp_2 (hLp_1 a ham) hL_1) ⟨rfl, rfl⟩ ⟨(Nat.le_of_ble_eq_true rfl), (Nat.le_of_ble_eq_true rfl)⟩ rfl (Nat.le_of_ble_eq_true rfl) dJ9_put_2_42 rfl ⟨(Nat.le_of_ble_eq_true rfl), (Nat.le_of_ble_eq_true rfl)⟩) 47 rfl 0 (Nat.le_of_ble_eq_true rfl) ?_
      refine g_istore hC dJ9_put_2_47 (Nat.le_of_ble_eq_true rfl) [(5, .int (cmpI k (ky a))), (6, .ref a), (0, .ref mp), (1, .ref k0), (2, .ref v0), (3, .int 1), (4, .ref a), (7, .ref cm)] rfl 49 rfl ?_
      refine g_iload hC dJ9_put_2_49 0 rfl 51 rfl ?_
      refine g_if_ge hC dJ9_put_2_51 64 rfl 54 rfl (fun c_3 => ?_) (fun c_3 => ?_)
      · refine g_iload hC dJ9_put_2_64 0 rfl 66 rfl ?_
        refine g_if_le hC dJ9_put_2_66 79 rfl 69 rfl (fun c_4 => ?_) (fun c_4 => ?_)
        · have haa : a = a0 := hI.inj ham ha0 ((show ky a = k by have h1 := Int32.not_lt.mpr c_3; have h2 := Int32.not_lt.mpr c_4; rw [cmpI_lt] at h1; rw [cmpI_gt] at h2; exact (Int32.le_antisymm (Int32.not_lt.mp h1) (Int32.not_lt.mp h2))).trans ha0k.symm)
          subst haa
          refine g_aload hC dJ9_put_2_79 6 rfl gRef_r 81 rfl ?_
          refine g_get (v := .ref (vl a)) hC cI25 (hLp_0 a ham) 1 (Nat.le_of_ble_eq_true rfl) q1026 rfl dJ9_put_2_81 84 rfl ?_
          refine g_astore hC dJ9_put_2_84 gRef_r (Nat.le_of_ble_eq_true rfl) [(8, .ref (vl a)), (5, .int (cmpI k (ky a))), (6, .ref a), (0, .ref mp), (1, .ref k0), (2, .ref v0), (3, .int 1), (4, .ref a), (7, .ref cm)] rfl 86 rfl ?_
          refine g_iload_n hC dJ9_put_2_86 6 rfl 87 rfl ?_
          refine g_if_ne hC dJ9_put_2_87 95 rfl 90 rfl (fun c_5 => ?_) (fun c_5 => ?_)
          · refine g_aload hC dJ9_put_2_95 7 rfl gRef_r 97 rfl ?_
            refine g_aload_n hC dJ9_put_2_97 5 rfl gRef_r 98 rfl ?_
            refine g_put hC cI25 (hLp_0 a ham) 1 (Nat.le_of_ble_eq_true rfl) q1026 rfl rfl rfl (Nat.le_of_ble_eq_true rfl) dJ9_put_2_98 (fs' := [.ref (kb a), .ref v0, va_rf (lf a), va_rf (rt a), va_rf (pa a), .int (bI (co a))]) rfl 101 rfl (fun M6 hU7 => ?_)
            have hE8 : tmE M6 t1 Ns kb (va_up vl a v0) lf rt pa co := tmE.s1 hLp_0 (v := v0) hU7
            refine g_aload hC dJ9_put_2_101 0 rfl gRef_r 103 rfl ?_
            exact g_aret (v := some (vl a)) hC (by first | exact Or.inl ⟨_, rfl⟩ | exact Or.inr ⟨_, rfl⟩) (fun k9 hk9 => ⟨rfl, (hU7.n (gne_c hL_0 (hLp_0 a ham) (by decide)) hL_0), hE8, (hLF.trans (gFr.refl.up hU7 (hLp_0 a ham) (show (tgE t1.1 t1.2) t1 by (try simp only [ndT, tgE, gT, tgR, ndT9, tg0, Prod.mk.injEq]); first | done | omega | (simp; done)))), (by first | exact Nat.le_zero.mp hk9 | omega)⟩) dJ9_put_2_103 (Nat.le_of_ble_eq_true rfl) (Nat.le_of_ble_eq_true rfl)
          · exact absurd c_5 (by decide)
        · refine g_aload hC dJ9_put_2_69 6 rfl gRef_r 71 rfl ?_
          refine g_get (v := va_rf (rt a)) hC cI25 (hLp_0 a ham) 3 (Nat.le_of_ble_eq_true rfl) q1030 rfl dJ9_put_2_71 74 rfl ?_
          refine g_astore hC dJ9_put_2_74 gRef_q (Nat.le_of_ble_eq_true rfl) [(4, va_rf (rt a)), (5, .int (cmpI k (ky a))), (6, .ref a), (0, .ref mp), (1, .ref k0), (2, .ref v0), (3, .int 1), (7, .ref cm)] rfl 76 rfl ?_
          refine g_goto hC dJ9_put_2_76 104 rfl ?_
          refine g_aload hC dJ9_put_2_104 0 rfl gRef_q 106 rfl ?_
          refine g_ifnonnull hC dJ9_put_2_106 30 rfl 109 rfl (fun x_9 e_10 => ?_) (fun e_10 => ?_)
          · refine g_lv (lv' := [(4, .ref x_9), (5, .int (cmpI k (ky a))), (6, .ref a), (0, .ref mp), (1, .ref k0), (2, .ref v0), (3, .int 1), (7, .ref cm)]) (by rw [e_10]; rfl) ?_
            have hxm : x_9 ∈ Ns := (hI.rtm ham e_10).1
            refine gJ.sub (M' := ML) [3, 4, 5, 6, 0, 7] rfl ?_
            exact ih x_9 ML hxm (by obtain ⟨b9, q1, q2⟩ := hI.goR ham ha0 hin (kyR_lt.mpr (by rw [ha0k]; exact (cmpI_gt.mp (Int32.not_le.mp c_4)))); rw [e_10] at q1; cases q1; exact q2) (Nat.lt_of_lt_of_le (hI.wR ham e_10) (Nat.le_of_lt_succ hmu)) hL_0 hL_1 hLp_0 hLp_1 hLp_2 hLF
          · refine g_lv (lv' := [(4, .null), (5, .int (cmpI k (ky a))), (6, .ref a), (0, .ref mp), (1, .ref k0), (2, .ref v0), (3, .int 1), (7, .ref cm)]) (by rw [e_10]; rfl) ?_
            refine g_goto hC dJ9_put_2_109 201 rfl ?_
            exact absurd e_10 (by obtain ⟨b9, q1, q2⟩ := hI.goR ham ha0 hin (kyR_lt.mpr (by rw [ha0k]; exact (cmpI_gt.mp (Int32.not_le.mp c_4)))); rw [q1]; simp)
      · refine g_aload hC dJ9_put_2_54 6 rfl gRef_r 56 rfl ?_
        refine g_get (v := va_rf (lf a)) hC cI25 (hLp_0 a ham) 2 (Nat.le_of_ble_eq_true rfl) q1028 rfl dJ9_put_2_56 59 rfl ?_
        refine g_astore hC dJ9_put_2_59 gRef_q (Nat.le_of_ble_eq_true rfl) [(4, va_rf (lf a)), (5, .int (cmpI k (ky a))), (6, .ref a), (0, .ref mp), (1, .ref k0), (2, .ref v0), (3, .int 1), (7, .ref cm)] rfl 61 rfl ?_
        refine g_goto hC dJ9_put_2_61 104 rfl ?_
        refine g_aload hC dJ9_put_2_104 0 rfl gRef_q 106 rfl ?_
        refine g_ifnonnull hC dJ9_put_2_106 30 rfl 109 rfl (fun x_11 e_12 => ?_) (fun e_12 => ?_)
        · refine g_lv (lv' := [(4, .ref x_11), (5, .int (cmpI k (ky a))), (6, .ref a), (0, .ref mp), (1, .ref k0), (2, .ref v0), (3, .int 1), (7, .ref cm)]) (by rw [e_12]; rfl) ?_
          have hxm : x_11 ∈ Ns := (hI.lfm ham e_12).1
          refine gJ.sub (M' := ML) [3, 4, 5, 6, 0, 7] rfl ?_
          exact ih x_11 ML hxm (by obtain ⟨b9, q1, q2⟩ := hI.goL ham ha0 hin (kyR_lt.mpr (by rw [ha0k]; exact (cmpI_lt.mp (Int32.not_le.mp c_3)))); rw [e_12] at q1; cases q1; exact q2) (Nat.lt_of_lt_of_le (hI.wL ham e_12) (Nat.le_of_lt_succ hmu)) hL_0 hL_1 hLp_0 hLp_1 hLp_2 hLF
        · refine g_lv (lv' := [(4, .null), (5, .int (cmpI k (ky a))), (6, .ref a), (0, .ref mp), (1, .ref k0), (2, .ref v0), (3, .int 1), (7, .ref cm)]) (by rw [e_12]; rfl) ?_
          refine g_goto hC dJ9_put_2_109 201 rfl ?_
          exact absurd e_12 (by obtain ⟨b9, q1, q2⟩ := hI.goL ham ha0 hin (kyR_lt.mpr (by rw [ha0k]; exact (cmpI_lt.mp (Int32.not_le.mp c_3)))); rw [q1]; simp)
  refine gJ.sub (M' := M) [2, 3, 4, 5, 1, 0] rfl ?_
  exact loop30 _ r9 M hrm (by obtain ⟨-, -, e3, e4⟩ := hI.2.1 r9 hr; exact ⟨fun u hu => (by rw [e3] at hu; cases hu), fun u hu => (by rw [e4] at hu; cases hu)⟩) (Nat.lt_succ_self _) hM_0 hM_1 hP_0 hP_1 hP_2 gFr.refl
