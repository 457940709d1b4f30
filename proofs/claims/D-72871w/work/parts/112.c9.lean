/-! TreeMap: neighbours, first entry -/
set_option maxRecDepth 100000
theorem tmI.upR {r : Option Nat} {Ns : List Nat} {ρ : Nat → Int} {lf rt pa lo hi : Nat → Option Nat} (h : tmI r Ns ρ lf rt pa lo hi) {a b : Nat} (hb : b ∈ Ns) (e : rt b = some a) : hi a = hi b := (h.2.2.2.2.2.1 b hb a e).2.2.2
theorem tmI.upL {r : Option Nat} {Ns : List Nat} {ρ : Nat → Int} {lf rt pa lo hi : Nat → Option Nat} (h : tmI r Ns ρ lf rt pa lo hi) {a b : Nat} (hb : b ∈ Ns) (e : lf b = some a) : lo a = lo b := (h.2.2.2.2.1 b hb a e).2.2.1
theorem tmI.top {r : Option Nat} {Ns : List Nat} {ρ : Nat → Int} {lf rt pa lo hi : Nat → Option Nat} (h : tmI r Ns ρ lf rt pa lo hi) {a : Nat} (ha : a ∈ Ns) (e : pa a = none) : lo a = none ∧ hi a = none := ⟨(h.2.1 a (h.2.2.2.2.2.2.2.2.2.1 a ha e)).2.2.1, (h.2.1 a (h.2.2.2.2.2.2.2.2.2.1 a ha e)).2.2.2⟩
theorem tmI.stopR {r : Option Nat} {Ns : List Nat} {ρ : Nat → Int} {lf rt pa lo hi : Nat → Option Nat} (h : tmI r Ns ρ lf rt pa lo hi) {a b : Nat} (ha : a ∈ Ns) (e : pa a = some b) (hn : ¬ some a = rt b) : hi a = some b := by
  obtain ⟨q1, q2⟩ := h.2.2.2.2.2.2.2.2.1 a ha b e
  exact (h.2.2.2.2.1 b q1 a (q2.resolve_right (fun q => hn q.symm))).2.2.2
theorem tmI.stopL {r : Option Nat} {Ns : List Nat} {ρ : Nat → Int} {lf rt pa lo hi : Nat → Option Nat} (h : tmI r Ns ρ lf rt pa lo hi) {a b : Nat} (ha : a ∈ Ns) (e : pa a = some b) (hn : ¬ some a = lf b) : lo a = some b := by
  obtain ⟨q1, q2⟩ := h.2.2.2.2.2.2.2.2.1 a ha b e
  exact (h.2.2.2.2.2.1 b q1 a (q2.resolve_left (fun q => hn q.symm))).2.2.1
theorem tmI.atLL {r : Option Nat} {Ns : List Nat} {ky : Nat → Int32} {lf rt pa lo hi : Nat → Option Nat} (h : tmI r Ns (kyR ky) lf rt pa lo hi) {a b : Nat} {k : Int32} (ha : a ∈ Ns) (e : lf a = some b) : (atI ky lo hi a k → k < ky a → atI ky lo hi b k) ∧ (atJ ky lo hi a k → k ≤ ky a → atJ ky lo hi b k) ∧ (atK ky lo hi a k → k < ky a → atK ky lo hi b k) := by
  obtain ⟨-, -, e3, e4⟩ := h.2.2.2.2.1 a ha b e
  refine ⟨fun q z => ⟨fun u hu => q.1 u (e3.symm.trans hu), fun u hu => ?_⟩, fun q z => ⟨fun u hu => q.1 u (e3.symm.trans hu), fun u hu => ?_⟩, fun q z => ⟨fun u hu => q.1 u (e3.symm.trans hu), fun u hu => ?_⟩⟩ <;> (rw [e4] at hu; cases hu; exact z)
theorem tmI.atRR {r : Option Nat} {Ns : List Nat} {ky : Nat → Int32} {lf rt pa lo hi : Nat → Option Nat} (h : tmI r Ns (kyR ky) lf rt pa lo hi) {a b : Nat} {k : Int32} (ha : a ∈ Ns) (e : rt a = some b) : (atI ky lo hi a k → ky a ≤ k → atI ky lo hi b k) ∧ (atJ ky lo hi a k → ky a < k → atJ ky lo hi b k) ∧ (atK ky lo hi a k → ky a < k → atK ky lo hi b k) := by
  obtain ⟨-, -, e3, e4⟩ := h.2.2.2.2.2.1 a ha b e
  refine ⟨fun q z => ⟨fun u hu => ?_, fun u hu => q.2 u (e4.symm.trans hu)⟩, fun q z => ⟨fun u hu => ?_, fun u hu => q.2 u (e4.symm.trans hu)⟩, fun q z => ⟨fun u hu => ?_, fun u hu => q.2 u (e4.symm.trans hu)⟩⟩ <;> (rw [e3] at hu; cases hu; exact z)
set_option maxHeartbeats 4000000 in
theorem met_TM_getHigherEntry (l : Launch) (G : gG) (M : gM) (mp : Nat) (t0 : Nat × Nat) (cm : Nat) (r : Option Nat) (n : Nat) (mc : Int32) (ks : Option Nat) (t1 : Nat × Nat) (Ns : List Nat) (kb : Nat → Nat) (vl : Nat → Nat) (lf : Nat → Option Nat) (rt : Nat → Option Nat) (pa : Nat → Option Nat) (co : Nat → Bool) (ky : Nat → Int32) (lo : Nat → Option Nat) (hi : Nat → Option Nat) (k0 : Nat) (k : Int32) (hI : tmI r Ns (kyR ky) lf rt pa lo hi) (hS : tmS Ns ky) (hk : gBox G M k0 k) (hM_0 : M mp = some (t0, .inr (24, [.null, .null, .ref cm, va_rf r, .int (nI n), .int mc, .null, va_rf ks, .null]))) (hM_1 : M cm = some ((0, 5), .inr (5, []))) (hP_0 : tmE M t1 Ns kb vl lf rt pa co) (hP_1 : tmB M G Ns kb ky) : Met l yJ9_getHigherEntry (ws_ yJ9_getHigherEntry cJ9_getHigherEntry 6 (some (.object "java/util/TreeMap$Entry"))) ({ frames := 4, cells := 0, slots := 0, locals := 87 }) (gPc G [.ref mp, .ref k0] M) (gQq G (fun r9 M9 k9 => r9 = (tmH Ns ky k) ∧ M9 = M ∧ k9 = 0)) 0 0 (gA G) := by
  refine gMet [(0, .ref mp), (1, .ref k0)] (by decide) (Nat.le_of_ble_eq_true rfl) rfl ?_
  intro p e s m below meth c hC
  refine g_aload_n hC dJ9_getHigherEntry_0 0 rfl gRef_r 1 rfl ?_
  refine g_get (v := va_rf r) hC cI24 hM_0 3 (Nat.le_of_ble_eq_true rfl) q343 rfl dJ9_getHigherEntry_1 4 rfl ?_
  rcases hr : r with _ | r9
  · skip
    refine g_astore_n hC dJ9_getHigherEntry_4 rfl gRef_n (Nat.le_of_ble_eq_true rfl) [(2, .null), (0, .ref mp), (1, .ref k0)] rfl 5 rfl ?_
    refine g_aload_n hC dJ9_getHigherEntry_5 0 rfl gRef_n 6 rfl ?_
    refine g_ifnull (r := none) hC dJ9_getHigherEntry_6 99 rfl 9 rfl (fun _ => ?_) (fun _ q => by cases q)
    refine g_null hC dJ9_getHigherEntry_99 100 rfl ?_
    exact g_aret (v := none) hC (by first | exact Or.inl ⟨_, rfl⟩ | exact Or.inr ⟨_, rfl⟩) (fun k9 hk9 => ⟨(tmH_none (fun c hc => by rw [hI.2.2.1 hr] at hc; cases hc)).symm, rfl, Nat.le_zero.mp hk9⟩) dJ9_getHigherEntry_100 (Nat.le_of_ble_eq_true rfl) (Nat.le_of_ble_eq_true rfl)
  · skip
    refine g_astore_n hC dJ9_getHigherEntry_4 rfl gRef_r (Nat.le_of_ble_eq_true rfl) [(2, .ref r9), (0, .ref mp), (1, .ref k0)] rfl 5 rfl ?_
    have loop5 : ∀ (n9 : Nat) (a : Nat), (ham : a ∈ Ns) → (hat : atI ky lo hi a k) → tmw Ns (kyR ky) lo hi a < n9 → (M mp = some (t0, .inr (24, [.null, .null, .ref cm, va_rf r, .int (nI n), .int mc, .null, va_rf ks, .null]))) → (M cm = some ((0, 5), .inr (5, []))) → (tmE M t1 Ns kb vl lf rt pa co) → (tmB M G Ns kb ky) → gJ p l e ({ frames := 4, cells := 0, slots := 0, locals := 87 } : Room) s m ([.ref mp, .ref k0] : List Value).toArray below meth c G 6 (MQ below (gQq G (fun r9 M9 k9 => r9 = (tmH Ns ky k) ∧ M9 = M ∧ k9 = 0)) ([.ref mp, .ref k0] : List Value).toArray s 0 0 (gA G)) 0 0 M 5 [(0, .ref mp), (1, .ref k0), (2, .ref a)] [] := by
      intro n9
      induction n9 with
      | zero => intro a ham hat hmu; exact absurd hmu (Nat.not_lt_zero _)
      | succ n9 ih =>
        intro a ham hat hmu hL_0 hL_1 hLp_0 hLp_1
        refine g_aload_n hC dJ9_getHigherEntry_5 2 rfl gRef_r 6 rfl ?_
        refine g_ifnull (r := some a) hC dJ9_getHigherEntry_6 99 rfl 9 rfl (fun q => by cases q) (fun _ _ => ?_)
        refine g_aload_n hC dJ9_getHigherEntry_9 0 rfl gRef_r 10 rfl ?_
        refine g_aload_n hC dJ9_getHigherEntry_10 1 rfl gRef_r 11 rfl ?_
        refine g_aload_n hC dJ9_getHigherEntry_11 2 rfl gRef_r 12 rfl ?_
        refine g_get (v := .ref (kb a)) hC cI25 (hLp_0 a ham) 0 (Nat.le_of_ble_eq_true rfl) q1024 rfl dJ9_getHigherEntry_12 15 rfl ?_
        refine g_calliP (g_V (As := [.ref k0, .ref (kb a)]) (rest := []) hC mvJ9_compare q1012 (gOf.of hC.K cI24 hL_0) (met_TM_compare l G M mp t0 cm r n mc ks k0 (kb a) k (ky a) hk (hP_1 a ham) hL_0 hL_1) ⟨rfl, rfl⟩ ⟨(Nat.le_of_ble_eq_true rfl), (Nat.le_of_ble_eq_true rfl)⟩ rfl (Nat.le_of_ble_eq_true rfl) dJ9_getHigherEntry_15 rfl ⟨(Nat.le_of_ble_eq_true rfl), (Nat.le_of_ble_eq_true rfl)⟩) 18 rfl 0 (Nat.le_of_ble_eq_true rfl) ?_
        refine g_istore_n hC dJ9_getHigherEntry_18 rfl (Nat.le_of_ble_eq_true rfl) [(3, .int (cmpI k (ky a))), (0, .ref mp), (1, .ref k0), (2, .ref a)] rfl 19 rfl ?_
        refine g_iload_n hC dJ9_getHigherEntry_19 0 rfl 20 rfl ?_
        refine g_if_ge hC dJ9_getHigherEntry_20 40 rfl 23 rfl (fun c_3 => ?_) (fun c_3 => ?_)
        · refine g_aload_n hC dJ9_getHigherEntry_40 3 rfl gRef_r 41 rfl ?_
          refine g_get (v := va_rf (rt a)) hC cI25 (hLp_0 a ham) 3 (Nat.le_of_ble_eq_true rfl) q1030 rfl dJ9_getHigherEntry_41 44 rfl ?_
          refine g_ifnull hC dJ9_getHigherEntry_44 55 rfl 47 rfl (fun e_5 => ?_) (fun x_4 e_5 => ?_)
          · refine g_aload_n hC dJ9_getHigherEntry_55 3 rfl gRef_r 56 rfl ?_
            refine g_get (v := va_rf (pa a)) hC cI25 (hLp_0 a ham) 4 (Nat.le_of_ble_eq_true rfl) q1032 rfl dJ9_getHigherEntry_56 59 rfl ?_
            refine g_astore hC dJ9_getHigherEntry_59 gRef_q (Nat.le_of_ble_eq_true rfl) [(4, va_rf (pa a)), (3, .int (cmpI k (ky a))), (0, .ref mp), (1, .ref k0), (2, .ref a)] rfl 61 rfl ?_
            refine g_aload_n hC dJ9_getHigherEntry_61 4 rfl gRef_r 62 rfl ?_
            refine g_astore hC dJ9_getHigherEntry_62 gRef_r (Nat.le_of_ble_eq_true rfl) [(5, .ref a), (4, va_rf (pa a)), (3, .int (cmpI k (ky a))), (0, .ref mp), (1, .ref k0), (2, .ref a)] (by simp [gcat_q]) 64 rfl ?_
            have loop64 : ∀ (n9 : Nat) (q1 : Option Nat) (ch : Nat), (hcm : ch ∈ Ns) → (hq : q1 = pa ch) → (hch : hi ch = hi a) → Ns.length - tmw Ns (kyR ky) lo hi ch < n9 → (M mp = some (t0, .inr (24, [.null, .null, .ref cm, va_rf r, .int (nI n), .int mc, .null, va_rf ks, .null]))) → (M cm = some ((0, 5), .inr (5, []))) → (tmE M t1 Ns kb vl lf rt pa co) → (tmB M G Ns kb ky) → gJ p l e ({ frames := 4, cells := 0, slots := 0, locals := 87 } : Room) s m ([.ref mp, .ref k0] : List Value).toArray below meth c G 6 (MQ below (gQq G (fun r9 M9 k9 => r9 = (tmH Ns ky k) ∧ M9 = M ∧ k9 = 0)) ([.ref mp, .ref k0] : List Value).toArray s 0 0 (gA G)) 0 0 M 64 [(4, va_rf q1), (5, .ref ch)] [] := by
              intro n9
              induction n9 with
              | zero => intro q1 ch hcm hq hch hmu; exact absurd hmu (Nat.not_lt_zero _)
              | succ n9 ih64 =>
                intro q1 ch hcm hq hch hmu hL_0 hL_1 hLp_0 hLp_1
                refine g_aload hC dJ9_getHigherEntry_64 0 rfl gRef_q 66 rfl ?_
                refine g_ifnull hC dJ9_getHigherEntry_66 93 rfl 69 rfl (fun e_7 => ?_) (fun x_6 e_7 => ?_)
                · subst e_7
                  refine g_aload hC dJ9_getHigherEntry_93 0 rfl gRef_n 95 rfl ?_
                  exact g_aret (v := none) hC (by first | exact Or.inl ⟨_, rfl⟩ | exact Or.inr ⟨_, rfl⟩) (fun k9 hk9 => ⟨(by rw [hI.hgR hS ham hat (Int32.not_lt.mp (fun z => (Int32.not_lt.mpr c_3) (cmpI_lt.mpr z))) e_5, ← hch]; exact (hI.top hcm hq.symm).2.symm), rfl, Nat.le_zero.mp hk9⟩) dJ9_getHigherEntry_95 (Nat.le_of_ble_eq_true rfl) (Nat.le_of_ble_eq_true rfl)
                · subst e_7
                  obtain ⟨hqm, -⟩ := hI.2.2.2.2.2.2.2.2.1 ch hcm x_6 hq.symm
                  refine g_aload hC dJ9_getHigherEntry_69 1 rfl gRef_r 71 rfl ?_
                  refine g_aload hC dJ9_getHigherEntry_71 0 rfl gRef_r 73 rfl ?_
                  refine g_get (v := va_rf (rt x_6)) hC cI25 (hLp_0 x_6 hqm) 3 (Nat.le_of_ble_eq_true rfl) q1030 rfl dJ9_getHigherEntry_73 76 rfl ?_
                  refine g_acmp_ne (rx := some ch) (ry := rt x_6) hC dJ9_getHigherEntry_76 93 rfl 79 rfl (fun c_8 => ?_) (fun c_8 => ?_)
                  · refine g_aload hC dJ9_getHigherEntry_93 0 rfl gRef_r 95 rfl ?_
                    exact g_aret (v := some x_6) hC (by first | exact Or.inl ⟨_, rfl⟩ | exact Or.inr ⟨_, rfl⟩) (fun k9 hk9 => ⟨(by rw [hI.hgR hS ham hat (Int32.not_lt.mp (fun z => (Int32.not_lt.mpr c_3) (cmpI_lt.mpr z))) e_5, ← hch]; exact (hI.stopR hcm hq.symm c_8).symm), rfl, Nat.le_zero.mp hk9⟩) dJ9_getHigherEntry_95 (Nat.le_of_ble_eq_true rfl) (Nat.le_of_ble_eq_true rfl)
                  · refine g_aload hC dJ9_getHigherEntry_79 0 rfl gRef_r 81 rfl ?_
                    refine g_astore hC dJ9_getHigherEntry_81 gRef_r (Nat.le_of_ble_eq_true rfl) [(5, .ref x_6), (4, .ref x_6)] rfl 83 rfl ?_
                    refine g_aload hC dJ9_getHigherEntry_83 1 rfl gRef_r 85 rfl ?_
                    refine g_get (v := va_rf (pa x_6)) hC cI25 (hLp_0 x_6 hqm) 4 (Nat.le_of_ble_eq_true rfl) q1032 rfl dJ9_getHigherEntry_85 88 rfl ?_
                    refine g_astore hC dJ9_getHigherEntry_88 gRef_q (Nat.le_of_ble_eq_true rfl) [(4, va_rf (pa x_6)), (5, .ref x_6)] rfl 90 rfl ?_
                    refine g_goto hC dJ9_getHigherEntry_90 64 rfl ?_
                    exact ih64 (pa x_6) x_6 hqm rfl ((hI.upR hqm c_8.symm).symm.trans hch) (by have h1 := hI.wP hcm hq.symm; have h2 := tmw_le (Ns := Ns) (ρ := kyR ky) (lo := lo) (hi := hi) (a := x_6); omega) hL_0 hL_1 hLp_0 hLp_1
            refine gJ.sub (M' := M) [1, 0] rfl ?_
            exact loop64 _ (pa a) a ham rfl rfl (Nat.lt_succ_self _) hL_0 hL_1 hLp_0 hLp_1
          · have hxm : x_4 ∈ Ns := (hI.rtm ham e_5).1
            refine g_aload_n hC dJ9_getHigherEntry_47 3 rfl gRef_r 48 rfl ?_
            refine g_get (v := va_rf (rt a)) hC cI25 (hLp_0 a ham) 3 (Nat.le_of_ble_eq_true rfl) q1030 rfl dJ9_getHigherEntry_48 51 rfl ?_
            refine g_topv (y := .ref x_4) (congrArg va_rf (show rt a = some x_4 from e_5)) ?_
            refine g_astore_n hC dJ9_getHigherEntry_51 rfl gRef_r (Nat.le_of_ble_eq_true rfl) [(2, .ref x_4), (3, .int (cmpI k (ky a))), (0, .ref mp), (1, .ref k0)] rfl 52 rfl ?_
            refine g_goto hC dJ9_getHigherEntry_52 96 rfl ?_
            refine g_goto hC dJ9_getHigherEntry_96 5 rfl ?_
            refine gJ.sub (M' := M) [2, 3, 0] rfl ?_
            exact ih x_4 hxm ((hI.atRR ham e_5).1 hat (Int32.not_lt.mp (fun z => (Int32.not_lt.mpr c_3) (cmpI_lt.mpr z)))) (Nat.lt_of_lt_of_le (hI.wR ham e_5) (Nat.le_of_lt_succ hmu)) hL_0 hL_1 hLp_0 hLp_1
        · refine g_aload_n hC dJ9_getHigherEntry_23 3 rfl gRef_r 24 rfl ?_
          refine g_get (v := va_rf (lf a)) hC cI25 (hLp_0 a ham) 2 (Nat.le_of_ble_eq_true rfl) q1028 rfl dJ9_getHigherEntry_24 27 rfl ?_
          refine g_ifnull hC dJ9_getHigherEntry_27 38 rfl 30 rfl (fun e_10 => ?_) (fun x_9 e_10 => ?_)
          · refine g_aload_n hC dJ9_getHigherEntry_38 3 rfl gRef_r 39 rfl ?_
            exact g_aret (v := some a) hC (by first | exact Or.inl ⟨_, rfl⟩ | exact Or.inr ⟨_, rfl⟩) (fun k9 hk9 => ⟨(hI.hgL hS ham hat (cmpI_lt.mp (Int32.not_le.mp c_3)) e_10).symm, rfl, Nat.le_zero.mp hk9⟩) dJ9_getHigherEntry_39 (Nat.le_of_ble_eq_true rfl) (Nat.le_of_ble_eq_true rfl)
          · have hxm : x_9 ∈ Ns := (hI.lfm ham e_10).1
            refine g_aload_n hC dJ9_getHigherEntry_30 3 rfl gRef_r 31 rfl ?_
            refine g_get (v := va_rf (lf a)) hC cI25 (hLp_0 a ham) 2 (Nat.le_of_ble_eq_true rfl) q1028 rfl dJ9_getHigherEntry_31 34 rfl ?_
            refine g_topv (y := .ref x_9) (congrArg va_rf (show lf a = some x_9 from e_10)) ?_
            refine g_astore_n hC dJ9_getHigherEntry_34 rfl gRef_r (Nat.le_of_ble_eq_true rfl) [(2, .ref x_9), (3, .int (cmpI k (ky a))), (0, .ref mp), (1, .ref k0)] rfl 35 rfl ?_
            refine g_goto hC dJ9_getHigherEntry_35 96 rfl ?_
            refine g_goto hC dJ9_getHigherEntry_96 5 rfl ?_
            refine gJ.sub (M' := M) [2, 3, 0] rfl ?_
            exact ih x_9 hxm ((hI.atLL ham e_10).1 hat (cmpI_lt.mp (Int32.not_le.mp c_3))) (Nat.lt_of_lt_of_le (hI.wL ham e_10) (Nat.le_of_lt_succ hmu)) hL_0 hL_1 hLp_0 hLp_1
    refine gJ.sub (M' := M) [1, 2, 0] rfl ?_
    exact loop5 _ r9 ((hI.2.1 r9 hr).1) (hI.root hr k).1 (Nat.lt_succ_self _) hM_0 hM_1 hP_0 hP_1
set_option maxHeartbeats 4000000 in
theorem met_TM_getLowerEntry (l : Launch) (G : gG) (M : gM) (mp : Nat) (t0 : Nat × Nat) (cm : Nat) (r : Option Nat) (n : Nat) (mc : Int32) (ks : Option Nat) (t1 : Nat × Nat) (Ns : List Nat) (kb : Nat → Nat) (vl : Nat → Nat) (lf : Nat → Option Nat) (rt : Nat → Option Nat) (pa : Nat → Option Nat) (co : Nat → Bool) (ky : Nat → Int32) (lo : Nat → Option Nat) (hi : Nat → Option Nat) (k0 : Nat) (k : Int32) (hI : tmI r Ns (kyR ky) lf rt pa lo hi) (hS : tmS Ns ky) (hk : gBox G M k0 k) (hM_0 : M mp = some (t0, .inr (24, [.null, .null, .ref cm, va_rf r, .int (nI n), .int mc, .null, va_rf ks, .null]))) (hM_1 : M cm = some ((0, 5), .inr (5, []))) (hP_0 : tmE M t1 Ns kb vl lf rt pa co) (hP_1 : tmB M G Ns kb ky) : Met l yJ9_getLowerEntry (ws_ yJ9_getLowerEntry cJ9_getLowerEntry 6 (some (.object "java/util/TreeMap$Entry"))) ({ frames := 4, cells := 0, slots := 0, locals := 87 }) (gPc G [.ref mp, .ref k0] M) (gQq G (fun r9 M9 k9 => r9 = (tmL Ns ky k) ∧ M9 = M ∧ k9 = 0)) 0 0 (gA G) := by
  refine gMet [(0, .ref mp), (1, .ref k0)] (by decide) (Nat.le_of_ble_eq_true rfl) rfl ?_
  intro p e s m below meth c hC
  refine g_aload_n hC dJ9_getLowerEntry_0 0 rfl gRef_r 1 rfl ?_
  refine g_get (v := va_rf r) hC cI24 hM_0 3 (Nat.le_of_ble_eq_true rfl) q343 rfl dJ9_getLowerEntry_1 4 rfl ?_
  rcases hr : r with _ | r9
  · skip
    refine g_astore_n hC dJ9_getLowerEntry_4 rfl gRef_n (Nat.le_of_ble_eq_true rfl) [(2, .null), (0, .ref mp), (1, .ref k0)] rfl 5 rfl ?_
    refine g_aload_n hC dJ9_getLowerEntry_5 0 rfl gRef_n 6 rfl ?_
    refine g_ifnull (r := none) hC dJ9_getLowerEntry_6 99 rfl 9 rfl (fun _ => ?_) (fun _ q => by cases q)
    refine g_null hC dJ9_getLowerEntry_99 100 rfl ?_
    exact g_aret (v := none) hC (by first | exact Or.inl ⟨_, rfl⟩ | exact Or.inr ⟨_, rfl⟩) (fun k9 hk9 => ⟨(tmL_none (fun c hc => by rw [hI.2.2.1 hr] at hc; cases hc)).symm, rfl, Nat.le_zero.mp hk9⟩) dJ9_getLowerEntry_100 (Nat.le_of_ble_eq_true rfl) (Nat.le_of_ble_eq_true rfl)
  · skip
    refine g_astore_n hC dJ9_getLowerEntry_4 rfl gRef_r (Nat.le_of_ble_eq_true rfl) [(2, .ref r9), (0, .ref mp), (1, .ref k0)] rfl 5 rfl ?_
    have loop5 : ∀ (n9 : Nat) (a : Nat), (ham : a ∈ Ns) → (hat : atJ ky lo hi a k) → tmw Ns (kyR ky) lo hi a < n9 → (M mp = some (t0, .inr (24, [.null, .null, .ref cm, va_rf r, .int (nI n), .int mc, .null, va_rf ks, .null]))) → (M cm = some ((0, 5), .inr (5, []))) → (tmE M t1 Ns kb vl lf rt pa co) → (tmB M G Ns kb ky) → gJ p l e ({ frames := 4, cells := 0, slots := 0, locals := 87 } : Room) s m ([.ref mp, .ref k0] : List Value).toArray below meth c G 6 (MQ below (gQq G (fun r9 M9 k9 => r9 = (tmL Ns ky k) ∧ M9 = M ∧ k9 = 0)) ([.ref mp, .ref k0] : List Value).toArray s 0 0 (gA G)) 0 0 M 5 [(0, .ref mp), (1, .ref k0), (2, .ref a)] [] := by
      intro n9
      induction n9 with
      | zero => intro a ham hat hmu; exact absurd hmu (Nat.not_lt_zero _)
      | succ n9 ih =>
        intro a ham hat hmu hL_0 hL_1 hLp_0 hLp_1
        refine g_aload_n hC dJ9_getLowerEntry_5 2 rfl gRef_r 6 rfl ?_
        refine g_ifnull (r := some a) hC dJ9_getLowerEntry_6 99 rfl 9 rfl (fun q => by cases q) (fun _ _ => ?_)
        refine g_aload_n hC dJ9_getLowerEntry_9 0 rfl gRef_r 10 rfl ?_
        refine g_aload_n hC dJ9_getLowerEntry_10 1 rfl gRef_r 11 rfl ?_
        refine g_aload_n hC dJ9_getLowerEntry_11 2 rfl gRef_r 12 rfl ?_
        refine g_get (v := .ref (kb a)) hC cI25 (hLp_0 a ham) 0 (Nat.le_of_ble_eq_true rfl) q1024 rfl dJ9_getLowerEntry_12 15 rfl ?_
        refine g_calliP (g_V (As := [.ref k0, .ref (kb a)]) (rest := []) hC mvJ9_compare q1012 (gOf.of hC.K cI24 hL_0) (met_TM_compare l G M mp t0 cm r n mc ks k0 (kb a) k (ky a) hk (hP_1 a ham) hL_0 hL_1) ⟨rfl, rfl⟩ ⟨(Nat.le_of_ble_eq_true rfl), (Nat.le_of_ble_eq_true rfl)⟩ rfl (Nat.le_of_ble_eq_true rfl) dJ9_getLowerEntry_15 rfl ⟨(Nat.le_of_ble_eq_true rfl), (Nat.le_of_ble_eq_true rfl)⟩) 18 rfl 0 (Nat.le_of_ble_eq_true rfl) ?_
        refine g_istore_n hC dJ9_getLowerEntry_18 rfl (Nat.le_of_ble_eq_true rfl) [(3, .int (cmpI k (ky a))), (0, .ref mp), (1, .ref k0), (2, .ref a)] rfl 19 rfl ?_
        refine g_iload_n hC dJ9_getLowerEntry_19 0 rfl 20 rfl ?_
        refine g_if_le hC dJ9_getLowerEntry_20 40 rfl 23 rfl (fun c_3 => ?_) (fun c_3 => ?_)
        · refine g_aload_n hC dJ9_getLowerEntry_40 3 rfl gRef_r 41 rfl ?_
          refine g_get (v := va_rf (lf a)) hC cI25 (hLp_0 a ham) 2 (Nat.le_of_ble_eq_true rfl) q1028 rfl dJ9_getLowerEntry_41 44 rfl ?_
          refine g_ifnull hC dJ9_getLowerEntry_44 55 rfl 47 rfl (fun e_5 => ?_) (fun x_4 e_5 => ?_)
          · refine g_aload_n hC dJ9_getLowerEntry_55 3 rfl gRef_r 56 rfl ?_
            refine g_get (v := va_rf (pa a)) hC cI25 (hLp_0 a ham) 4 (Nat.le_of_ble_eq_true rfl) q1032 rfl dJ9_getLowerEntry_56 59 rfl ?_
            refine g_astore hC dJ9_getLowerEntry_59 gRef_q (Nat.le_of_ble_eq_true rfl) [(4, va_rf (pa a)), (3, .int (cmpI k (ky a))), (0, .ref mp), (1, .ref k0), (2, .ref a)] rfl 61 rfl ?_
            refine g_aload_n hC dJ9_getLowerEntry_61 4 rfl gRef_r 62 rfl ?_
            refine g_astore hC dJ9_getLowerEntry_62 gRef_r (Nat.le_of_ble_eq_true rfl) [(5, .ref a), (4, va_rf (pa a)), (3, .int (cmpI k (ky a))), (0, .ref mp), (1, .ref k0), (2, .ref a)] (by simp [gcat_q]) 64 rfl ?_
            have loop64 : ∀ (n9 : Nat) (q1 : Option Nat) (ch : Nat), (hcm : ch ∈ Ns) → (hq : q1 = pa ch) → (hch : lo ch = lo a) → Ns.length - tmw Ns (kyR ky) lo hi ch < n9 → (M mp = some (t0, .inr (24, [.null, .null, .ref cm, va_rf r, .int (nI n), .int mc, .null, va_rf ks, .null]))) → (M cm = some ((0, 5), .inr (5, []))) → (tmE M t1 Ns kb vl lf rt pa co) → (tmB M G Ns kb ky) → gJ p l e ({ frames := 4, cells := 0, slots := 0, locals := 87 } : Room) s m ([.ref mp, .ref k0] : List Value).toArray below meth c G 6 (MQ below (gQq G (fun r9 M9 k9 => r9 = (tmL Ns ky k) ∧ M9 = M ∧ k9 = 0)) ([.ref mp, .ref k0] : List Value).toArray s 0 0 (gA G)) 0 0 M 64 [(4, va_rf q1), (5, .ref ch)] [] := by
              intro n9
              induction n9 with
              | zero => intro q1 ch hcm hq hch hmu; exact absurd hmu (Nat.not_lt_zero _)
              | succ n9 ih64 =>
                intro q1 ch hcm hq hch hmu hL_0 hL_1 hLp_0 hLp_1
                refine g_aload hC dJ9_getLowerEntry_64 0 rfl gRef_q 66 rfl ?_
                refine g_ifnull hC dJ9_getLowerEntry_66 93 rfl 69 rfl (fun e_7 => ?_) (fun x_6 e_7 => ?_)
                · subst e_7
                  refine g_aload hC dJ9_getLowerEntry_93 0 rfl gRef_n 95 rfl ?_
                  exact g_aret (v := none) hC (by first | exact Or.inl ⟨_, rfl⟩ | exact Or.inr ⟨_, rfl⟩) (fun k9 hk9 => ⟨(by rw [hI.lwL hS ham hat (Int32.not_lt.mp (fun z => (Int32.not_lt.mpr c_3) (cmpI_gt.mpr z))) e_5, ← hch]; exact (hI.top hcm hq.symm).1.symm), rfl, Nat.le_zero.mp hk9⟩) dJ9_getLowerEntry_95 (Nat.le_of_ble_eq_true rfl) (Nat.le_of_ble_eq_true rfl)
                · subst e_7
                  obtain ⟨hqm, -⟩ := hI.2.2.2.2.2.2.2.2.1 ch hcm x_6 hq.symm
                  refine g_aload hC dJ9_getLowerEntry_69 1 rfl gRef_r 71 rfl ?_
                  refine g_aload hC dJ9_getLowerEntry_71 0 rfl gRef_r 73 rfl ?_
                  refine g_get (v := va_rf (lf x_6)) hC cI25 (hLp_0 x_6 hqm) 2 (Nat.le_of_ble_eq_true rfl) q1028 rfl dJ9_getLowerEntry_73 76 rfl ?_
                  refine g_acmp_ne (rx := some ch) (ry := lf x_6) hC dJ9_getLowerEntry_76 93 rfl 79 rfl (fun c_8 => ?_) (fun c_8 => ?_)
                  · refine g_aload hC dJ9_getLowerEntry_93 0 rfl gRef_r 95 rfl ?_
                    exact g_aret (v := some x_6) hC (by first | exact Or.inl ⟨_, rfl⟩ | exact Or.inr ⟨_, rfl⟩) (fun k9 hk9 => ⟨(by rw [hI.lwL hS ham hat (Int32.not_lt.mp (fun z => (Int32.not_lt.mpr c_3) (cmpI_gt.mpr z))) e_5, ← hch]; exact (hI.stopL hcm hq.symm c_8).symm), rfl, Nat.le_zero.mp hk9⟩) dJ9_getLowerEntry_95 (Nat.le_of_ble_eq_true rfl) (Nat.le_of_ble_eq_true rfl)
                  · refine g_aload hC dJ9_getLowerEntry_79 0 rfl gRef_r 81 rfl ?_
                    refine g_astore hC dJ9_getLowerEntry_81 gRef_r (Nat.le_of_ble_eq_true rfl) [(5, .ref x_6), (4, .ref x_6)] rfl 83 rfl ?_
                    refine g_aload hC dJ9_getLowerEntry_83 1 rfl gRef_r 85 rfl ?_
                    refine g_get (v := va_rf (pa x_6)) hC cI25 (hLp_0 x_6 hqm) 4 (Nat.le_of_ble_eq_true rfl) q1032 rfl dJ9_getLowerEntry_85 88 rfl ?_
                    refine g_astore hC dJ9_getLowerEntry_88 gRef_q (Nat.le_of_ble_eq_true rfl) [(4, va_rf (pa x_6)), (5, .ref x_6)] rfl 90 rfl ?_
                    refine g_goto hC dJ9_getLowerEntry_90 64 rfl ?_
                    exact ih64 (pa x_6) x_6 hqm rfl ((hI.upL hqm c_8.symm).symm.trans hch) (by have h1 := hI.wP hcm hq.symm; have h2 := tmw_le (Ns := Ns) (ρ := kyR ky) (lo := lo) (hi := hi) (a := x_6); omega) hL_0 hL_1 hLp_0 hLp_1
            refine gJ.sub (M' := M) [1, 0] rfl ?_
            exact loop64 _ (pa a) a ham rfl rfl (Nat.lt_succ_self _) hL_0 hL_1 hLp_0 hLp_1
          · have hxm : x_4 ∈ Ns := (hI.lfm ham e_5).1
            refine g_aload_n hC dJ9_getLowerEntry_47 3 rfl gRef_r 48 rfl ?_
            refine g_get (v := va_rf (lf a)) hC cI25 (hLp_0 a ham) 2 (Nat.le_of_ble_eq_true rfl) q1028 rfl dJ9_getLowerEntry_48 51 rfl ?_
            refine g_topv (y := .ref x_4) (congrArg va_rf (show lf a = some x_4 from e_5)) ?_
            refine g_astore_n hC dJ9_getLowerEntry_51 rfl gRef_r (Nat.le_of_ble_eq_true rfl) [(2, .ref x_4), (3, .int (cmpI k (ky a))), (0, .ref mp), (1, .ref k0)] rfl 52 rfl ?_
            refine g_goto hC dJ9_getLowerEntry_52 96 rfl ?_
            refine g_goto hC dJ9_getLowerEntry_96 5 rfl ?_
            refine gJ.sub (M' := M) [2, 3, 0] rfl ?_
            exact ih x_4 hxm ((hI.atLL ham e_5).2.1 hat (Int32.not_lt.mp (fun z => (Int32.not_lt.mpr c_3) (cmpI_gt.mpr z)))) (Nat.lt_of_lt_of_le (hI.wL ham e_5) (Nat.le_of_lt_succ hmu)) hL_0 hL_1 hLp_0 hLp_1
        · refine g_aload_n hC dJ9_getLowerEntry_23 3 rfl gRef_r 24 rfl ?_
          refine g_get (v := va_rf (rt a)) hC cI25 (hLp_0 a ham) 3 (Nat.le_of_ble_eq_true rfl) q1030 rfl dJ9_getLowerEntry_24 27 rfl ?_
          refine g_ifnull hC dJ9_getLowerEntry_27 38 rfl 30 rfl (fun e_10 => ?_) (fun x_9 e_10 => ?_)
          · refine g_aload_n hC dJ9_getLowerEntry_38 3 rfl gRef_r 39 rfl ?_
            exact g_aret (v := some a) hC (by first | exact Or.inl ⟨_, rfl⟩ | exact Or.inr ⟨_, rfl⟩) (fun k9 hk9 => ⟨(hI.lwR hS ham hat (cmpI_gt.mp (Int32.not_le.mp c_3)) e_10).symm, rfl, Nat.le_zero.mp hk9⟩) dJ9_getLowerEntry_39 (Nat.le_of_ble_eq_true rfl) (Nat.le_of_ble_eq_true rfl)
          · have hxm : x_9 ∈ Ns := (hI.rtm ham e_10).1
            refine g_aload_n hC dJ9_getLowerEntry_30 3 rfl gRef_r 31 rfl ?_
            refine g_get (v := va_rf (rt a)) hC cI25 (hLp_0 a ham) 3 (Nat.le_of_ble_eq_true rfl) q1030 rfl dJ9_getLowerEntry_31 34 rfl ?_
            refine g_topv (y := .ref x_9) (congrArg va_rf (show rt a = some x_9 from e_10)) ?_
            refine g_astore_n hC dJ9_getLowerEntry_34 rfl gRef_r (Nat.le_of_ble_eq_true rfl) [(2, .ref x_9), (3, .int (cmpI k (ky a))), (0, .ref mp), (1, .ref k0)] rfl 35 rfl ?_
            refine g_goto hC dJ9_getLowerEntry_35 96 rfl ?_
            refine g_goto hC dJ9_getLowerEntry_96 5 rfl ?_
            refine gJ.sub (M' := M) [2, 3, 0] rfl ?_
            exact ih x_9 hxm ((hI.atRR ham e_10).2.1 hat (cmpI_gt.mp (Int32.not_le.mp c_3))) (Nat.lt_of_lt_of_le (hI.wR ham e_10) (Nat.le_of_lt_succ hmu)) hL_0 hL_1 hLp_0 hLp_1
    refine gJ.sub (M' := M) [1, 2, 0] rfl ?_
    exact loop5 _ r9 ((hI.2.1 r9 hr).1) (hI.root hr k).2.1 (Nat.lt_succ_self _) hM_0 hM_1 hP_0 hP_1
set_option maxHeartbeats 4000000 in
theorem met_TM_keyOrNull_n (l : Launch) (G : gG) (M : gM)    : Met l yJ9_keyOrNull (ws_ yJ9_keyOrNull cJ9_keyOrNull 1 (some (.object "java/lang/Object"))) ({ frames := 0, cells := 0, slots := 0, locals := 0 }) (gPc G [.null] M) (gQq G (fun r9 M9 k9 => r9 = none ∧ M9 = M ∧ k9 = 0)) 0 0 (gA G) := by
  refine gMet [(0, .null)] (by decide) (Nat.le_of_ble_eq_true rfl) rfl ?_
  intro p e s m below meth c hC
  refine g_aload_n hC dJ9_keyOrNull_0 0 rfl gRef_n 1 rfl ?_
  refine g_ifnonnull (r := none) hC dJ9_keyOrNull_1 8 rfl 4 rfl (fun _ q => by cases q) (fun _ => ?_)
  refine g_null hC dJ9_keyOrNull_4 5 rfl ?_
  refine g_goto hC dJ9_keyOrNull_5 12 rfl ?_
  exact g_aret (v := none) hC (by first | exact Or.inl ⟨_, rfl⟩ | exact Or.inr ⟨_, rfl⟩) (fun k9 hk9 => ⟨rfl, rfl, Nat.le_zero.mp hk9⟩) dJ9_keyOrNull_12 (Nat.le_of_ble_eq_true rfl) (Nat.le_of_ble_eq_true rfl)
set_option maxHeartbeats 4000000 in
theorem met_TM_keyOrNull_s (l : Launch) (G : gG) (M : gM) (t1 : Nat × Nat) (Ns : List Nat) (kb : Nat → Nat) (vl : Nat → Nat) (lf : Nat → Option Nat) (rt : Nat → Option Nat) (pa : Nat → Option Nat) (co : Nat → Bool) (a : Nat) (ha : a ∈ Ns)  (hP_0 : tmE M t1 Ns kb vl lf rt pa co) : Met l yJ9_keyOrNull (ws_ yJ9_keyOrNull cJ9_keyOrNull 1 (some (.object "java/lang/Object"))) ({ frames := 0, cells := 0, slots := 0, locals := 0 }) (gPc G [.ref a] M) (gQq G (fun r9 M9 k9 => r9 = (some (kb a)) ∧ M9 = M ∧ k9 = 0)) 0 0 (gA G) := by
  refine gMet [(0, .ref a)] (by decide) (Nat.le_of_ble_eq_true rfl) rfl ?_
  intro p e s m below meth c hC
  refine g_aload_n hC dJ9_keyOrNull_0 0 rfl gRef_r 1 rfl ?_
  refine g_ifnonnull (r := some a) hC dJ9_keyOrNull_1 8 rfl 4 rfl (fun _ _ => ?_) (fun q => by cases q)
  refine g_aload_n hC dJ9_keyOrNull_8 0 rfl gRef_r 9 rfl ?_
  refine g_get (v := .ref (kb a)) hC cI25 (hP_0 a ha) 0 (Nat.le_of_ble_eq_true rfl) q1024 rfl dJ9_keyOrNull_9 12 rfl ?_
  exact g_aret (v := some (kb a)) hC (by first | exact Or.inl ⟨_, rfl⟩ | exact Or.inr ⟨_, rfl⟩) (fun k9 hk9 => ⟨rfl, rfl, Nat.le_zero.mp hk9⟩) dJ9_keyOrNull_12 (Nat.le_of_ble_eq_true rfl) (Nat.le_of_ble_eq_true rfl)
set_option maxHeartbeats 4000000 in
theorem met_TM_keyOrNull (l : Launch) (G : gG) (M : gM) (t1 : Nat × Nat) (Ns : List Nat) (kb : Nat → Nat) (vl : Nat → Nat) (lf : Nat → Option Nat) (rt : Nat → Option Nat) (pa : Nat → Option Nat) (co : Nat → Bool) (x : Option Nat) (hx : ∀ a, x = some a → a ∈ Ns)  (hP_0 : tmE M t1 Ns kb vl lf rt pa co) : Met l yJ9_keyOrNull (ws_ yJ9_keyOrNull cJ9_keyOrNull 1 (some (.object "java/lang/Object"))) ({ frames := 0, cells := 0, slots := 0, locals := 0 }) (gPc G [va_rf x] M) (gQq G (fun r9 M9 k9 => r9 = (x.map kb) ∧ M9 = M ∧ k9 = 0)) 0 0 (gA G) := by
  cases x with
  | none => exact met_TM_keyOrNull_n l G M
  | some a => exact met_TM_keyOrNull_s l G M t1 Ns kb vl lf rt pa co a (hx a rfl) hP_0
theorem tmH_mem {Ns : List Nat} {ky : Nat → Int32} {k : Int32} {a : Nat} (h : tmH Ns ky k = some a) : a ∈ Ns := List.mem_of_find?_eq_some h
theorem tmL_mem {Ns : List Nat} {ky : Nat → Int32} {k : Int32} {a : Nat} (h : tmL Ns ky k = some a) : a ∈ Ns := List.mem_reverse.mp (List.mem_of_find?_eq_some h)
set_option maxHeartbeats 4000000 in
theorem met_TM_higherKey0 (l : Launch) (G : gG) (M : gM) (mp : Nat) (t0 : Nat × Nat) (cm : Nat) (r : Option Nat) (n : Nat) (mc : Int32) (ks : Option Nat) (t1 : Nat × Nat) (Ns : List Nat) (kb : Nat → Nat) (vl : Nat → Nat) (lf : Nat → Option Nat) (rt : Nat → Option Nat) (pa : Nat → Option Nat) (co : Nat → Bool) (ky : Nat → Int32) (lo : Nat → Option Nat) (hi : Nat → Option Nat) (k0 : Nat) (k : Int32) (hI : tmI r Ns (kyR ky) lf rt pa lo hi) (hS : tmS Ns ky) (hk : gBox G M k0 k) (hM_0 : M mp = some (t0, .inr (24, [.null, .null, .ref cm, va_rf r, .int (nI n), .int mc, .null, va_rf ks, .null]))) (hM_1 : M cm = some ((0, 5), .inr (5, []))) (hP_0 : tmE M t1 Ns kb vl lf rt pa co) (hP_1 : tmB M G Ns kb ky) : Met l yJ9_higherKey (ws_ yJ9_higherKey cJ9_higherKey 2 (some (.object "java/lang/Object"))) ({ frames := 5, cells := 0, slots := 0, locals := 112 }) (gPc G [.ref mp, .ref k0] M) (gQq G (fun r9 M9 k9 => r9 = ((tmH Ns ky k).map kb) ∧ M9 = M ∧ k9 = 0)) 0 0 (gA G) := by
  refine gMet [(0, .ref mp), (1, .ref k0)] (by decide) (Nat.le_of_ble_eq_true rfl) rfl ?_
  intro p e s m below meth c hC
  refine g_aload_n hC dJ9_higherKey_0 0 rfl gRef_r 1 rfl ?_
  refine g_aload_n hC dJ9_higherKey_1 1 rfl gRef_r 2 rfl ?_
  refine g_callqP (g_V (As := [.ref k0]) (rest := []) hC mvJ9_getHigherEntry q2671 (gOf.of hC.K cI24 hM_0) (met_TM_getHigherEntry l G M mp t0 cm r n mc ks t1 Ns kb vl lf rt pa co ky lo hi k0 k hI hS hk hM_0 hM_1 hP_0 hP_1) ⟨rfl, rfl⟩ ⟨(Nat.le_of_ble_eq_true rfl), (Nat.le_of_ble_eq_true rfl)⟩ rfl (Nat.le_of_ble_eq_true rfl) dJ9_higherKey_2 rfl ⟨(Nat.le_of_ble_eq_true rfl), (Nat.le_of_ble_eq_true rfl)⟩) 5 rfl 0 (Nat.le_of_ble_eq_true rfl) ?_
  refine g_callqP (g_S (As := [va_rf (tmH Ns ky k)]) (rest := []) hC msJ9_keyOrNull q2675 (met_TM_keyOrNull l G M t1 Ns kb vl lf rt pa co (tmH Ns ky k) (fun a q => tmH_mem q) hP_0) ⟨rfl, rfl⟩ ⟨(Nat.le_of_ble_eq_true rfl), (Nat.le_of_ble_eq_true rfl)⟩ rfl (Nat.le_of_ble_eq_true rfl) dJ9_higherKey_5 rfl ⟨(Nat.le_of_ble_eq_true rfl), (Nat.le_of_ble_eq_true rfl)⟩) 8 rfl 0 (Nat.le_of_ble_eq_true rfl) ?_
  exact g_aret (v := (tmH Ns ky k).map kb) hC (by first | exact Or.inl ⟨_, rfl⟩ | exact Or.inr ⟨_, rfl⟩) (fun k9 hk9 => ⟨rfl, rfl, Nat.le_zero.mp hk9⟩) dJ9_higherKey_8 (Nat.le_of_ble_eq_true rfl) (Nat.le_of_ble_eq_true rfl)
set_option maxHeartbeats 4000000 in
theorem met_TM_lowerKey0 (l : Launch) (G : gG) (M : gM) (mp : Nat) (t0 : Nat × Nat) (cm : Nat) (r : Option Nat) (n : Nat) (mc : Int32) (ks : Option Nat) (t1 : Nat × Nat) (Ns : List Nat) (kb : Nat → Nat) (vl : Nat → Nat) (lf : Nat → Option Nat) (rt : Nat → Option Nat) (pa : Nat → Option Nat) (co : Nat → Bool) (ky : Nat → Int32) (lo : Nat → Option Nat) (hi : Nat → Option Nat) (k0 : Nat) (k : Int32) (hI : tmI r Ns (kyR ky) lf rt pa lo hi) (hS : tmS Ns ky) (hk : gBox G M k0 k) (hM_0 : M mp = some (t0, .inr (24, [.null, .null, .ref cm, va_rf r, .int (nI n), .int mc, .null, va_rf ks, .null]))) (hM_1 : M cm = some ((0, 5), .inr (5, []))) (hP_0 : tmE M t1 Ns kb vl lf rt pa co) (hP_1 : tmB M G Ns kb ky) : Met l yJ9_lowerKey (ws_ yJ9_lowerKey cJ9_lowerKey 2 (some (.object "java/lang/Object"))) ({ frames := 5, cells := 0, slots := 0, locals := 112 }) (gPc G [.ref mp, .ref k0] M) (gQq G (fun r9 M9 k9 => r9 = ((tmL Ns ky k).map kb) ∧ M9 = M ∧ k9 = 0)) 0 0 (gA G) := by
  refine gMet [(0, .ref mp), (1, .ref k0)] (by decide) (Nat.le_of_ble_eq_true rfl) rfl ?_
  intro p e s m below meth c hC
  refine g_aload_n hC dJ9_lowerKey_0 0 rfl gRef_r 1 rfl ?_
  refine g_aload_n hC dJ9_lowerKey_1 1 rfl gRef_r 2 rfl ?_
  refine g_callqP (g_V (As := [.ref k0]) (rest := []) hC mvJ9_getLowerEntry q2688 (gOf.of hC.K cI24 hM_0) (met_TM_getLowerEntry l G M mp t0 cm r n mc ks t1 Ns kb vl lf rt pa co ky lo hi k0 k hI hS hk hM_0 hM_1 hP_0 hP_1) ⟨rfl, rfl⟩ ⟨(Nat.le_of_ble_eq_true rfl), (Nat.le_of_ble_eq_true rfl)⟩ rfl (Nat.le_of_ble_eq_true rfl) dJ9_lowerKey_2 rfl ⟨(Nat.le_of_ble_eq_true rfl), (Nat.le_of_ble_eq_true rfl)⟩) 5 rfl 0 (Nat.le_of_ble_eq_true rfl) ?_
  refine g_callqP (g_S (As := [va_rf (tmL Ns ky k)]) (rest := []) hC msJ9_keyOrNull q2675 (met_TM_keyOrNull l G M t1 Ns kb vl lf rt pa co (tmL Ns ky k) (fun a q => tmL_mem q) hP_0) ⟨rfl, rfl⟩ ⟨(Nat.le_of_ble_eq_true rfl), (Nat.le_of_ble_eq_true rfl)⟩ rfl (Nat.le_of_ble_eq_true rfl) dJ9_lowerKey_5 rfl ⟨(Nat.le_of_ble_eq_true rfl), (Nat.le_of_ble_eq_true rfl)⟩) 8 rfl 0 (Nat.le_of_ble_eq_true rfl) ?_
  exact g_aret (v := (tmL Ns ky k).map kb) hC (by first | exact Or.inl ⟨_, rfl⟩ | exact Or.inr ⟨_, rfl⟩) (fun k9 hk9 => ⟨rfl, rfl, Nat.le_zero.mp hk9⟩) dJ9_lowerKey_8 (Nat.le_of_ble_eq_true rfl) (Nat.le_of_ble_eq_true rfl)
