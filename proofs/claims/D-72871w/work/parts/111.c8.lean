/-! TreeMap: finding -/
set_option maxRecDepth 100000
def tmB (M : gM) (G : gG) (Ns : List Nat) (kb : Nat → Nat) (ky : Nat → Int32) : Prop := ∀ a ∈ Ns, gBox G M (kb a) (ky a)
theorem tmB.fr {M M' : gM} {G : gG} {Ns : List Nat} {kb : Nat → Nat} {ky : Nat → Int32} (h : tmB M G Ns kb ky) (hF : gFr (gT (fun t => ¬ tg0 t)) M M') : tmB M' G Ns kb ky := fun a ha => (h a ha).fr hF (fun _ _ q => q)
set_option maxHeartbeats 4000000 in
theorem met_TM_compare (l : Launch) (G : gG) (M : gM) (mp : Nat) (t0 : Nat × Nat) (cm : Nat) (r : Option Nat) (n : Nat) (mc : Int32) (ks : Option Nat) (a : Nat) (b : Nat) (x : Int32) (y : Int32) (ha : gBox G M a x) (hb : gBox G M b y) (hM_0 : M mp = some (t0, .inr (24, [.null, .null, .ref cm, va_rf r, .int (nI n), .int mc, .null, va_rf ks, .null]))) (hM_1 : M cm = some ((0, 5), .inr (5, []))) : Met l yJ9_compare (ws_ yJ9_compare cJ9_compare 3 (some .int)) ({ frames := 3, cells := 0, slots := 0, locals := 65 }) (gPc G [.ref mp, .ref a, .ref b] M) (gQi G (fun r9 M9 k9 => r9 = (cmpI x y) ∧ M9 = M ∧ k9 = 0)) 0 0 (gA G) := by
  refine gMet [(0, .ref mp), (1, .ref a), (2, .ref b)] (by decide) (Nat.le_of_ble_eq_true rfl) rfl ?_
  intro p e s m below meth c hC
  refine g_aload_n hC dJ9_compare_0 0 rfl gRef_r 1 rfl ?_
  refine g_get (v := .ref cm) hC cI24 hM_0 2 (Nat.le_of_ble_eq_true rfl) q342 rfl dJ9_compare_1 4 rfl ?_
  refine g_ifnonnull (r := some cm) hC dJ9_compare_4 20 rfl 7 rfl (fun _ _ => ?_) (fun q => by cases q)
  refine g_aload_n hC dJ9_compare_20 0 rfl gRef_r 21 rfl ?_
  refine g_get (v := .ref cm) hC cI24 hM_0 2 (Nat.le_of_ble_eq_true rfl) q342 rfl dJ9_compare_21 24 rfl ?_
  refine g_aload_n hC dJ9_compare_24 1 rfl gRef_r 25 rfl ?_
  refine g_aload_n hC dJ9_compare_25 2 rfl gRef_r 26 rfl ?_
  refine g_callFiP (g_F (n := 2) (As := [.ref a, .ref b]) (rest := []) hC ⟨by decide +kernel, q607, q609, q118, q611, by decide +kernel⟩ q603 (gOf.of hC.K cI5 hM_1) (hC.at cI5) (met_byId l G M cm (0, 5) a b x y ha hb hM_1) ⟨rfl, rfl⟩ ⟨(Nat.le_of_ble_eq_true rfl), (Nat.le_of_ble_eq_true rfl)⟩ rfl (Nat.le_of_ble_eq_true rfl) dJ9_compare_26 rfl ⟨(Nat.le_of_ble_eq_true rfl), (Nat.le_of_ble_eq_true rfl)⟩) 31 rfl 0 (Nat.le_of_ble_eq_true rfl) ?_
  exact g_iret (v := cmpI x y) hC (fun k9 hk9 => ⟨rfl, rfl, Nat.le_zero.mp hk9⟩) dJ9_compare_31 (Nat.le_of_ble_eq_true rfl) (Nat.le_of_ble_eq_true rfl)
def twO (Ns : List Nat) (ρ : Nat → Int) (lo hi : Nat → Option Nat) (p : Option Nat) : Nat := match p with | none => 0 | some a => 1 + tmw Ns ρ lo hi a
set_option maxHeartbeats 4000000 in
theorem met_TM_getUC (l : Launch) (G : gG) (M : gM) (mp : Nat) (t0 : Nat × Nat) (cm : Nat) (r : Option Nat) (n : Nat) (mc : Int32) (ks : Option Nat) (t1 : Nat × Nat) (Ns : List Nat) (kb : Nat → Nat) (vl : Nat → Nat) (lf : Nat → Option Nat) (rt : Nat → Option Nat) (pa : Nat → Option Nat) (co : Nat → Bool) (ky : Nat → Int32) (lo : Nat → Option Nat) (hi : Nat → Option Nat) (k0 : Nat) (k : Int32) (hI : tmI r Ns (kyR ky) lf rt pa lo hi) (hS : tmS Ns ky) (hk : gBox G M k0 k) (hM_0 : M mp = some (t0, .inr (24, [.null, .null, .ref cm, va_rf r, .int (nI n), .int mc, .null, va_rf ks, .null]))) (hM_1 : M cm = some ((0, 5), .inr (5, []))) (hP_0 : tmE M t1 Ns kb vl lf rt pa co) (hP_1 : tmB M G Ns kb ky) : Met l yJ9_getEntryUsingComparator (ws_ yJ9_getEntryUsingComparator cJ9_getEntryUsingComparator 6 (some (.object "java/util/TreeMap$Entry"))) ({ frames := 3, cells := 0, slots := 0, locals := 65 }) (gPc G [.ref mp, .ref k0] M) (gQq G (fun r9 M9 k9 => r9 = (tmF Ns ky k) ∧ M9 = M ∧ k9 = 0)) 0 0 (gA G) := by
  refine gMet [(0, .ref mp), (1, .ref k0)] (by decide) (Nat.le_of_ble_eq_true rfl) rfl ?_
  intro p e s m below meth c hC
  refine g_aload_n hC dJ9_getEntryUsingComparator_0 1 rfl gRef_r 1 rfl ?_
  refine g_astore_n hC dJ9_getEntryUsingComparator_1 rfl gRef_r (Nat.le_of_ble_eq_true rfl) [(2, .ref k0), (0, .ref mp), (1, .ref k0)] rfl 2 rfl ?_
  refine g_aload_n hC dJ9_getEntryUsingComparator_2 1 rfl gRef_r 3 rfl ?_
  refine g_get (v := .ref cm) hC cI24 hM_0 2 (Nat.le_of_ble_eq_true rfl) q342 rfl dJ9_getEntryUsingComparator_3 6 rfl ?_
  refine g_astore_n hC dJ9_getEntryUsingComparator_6 rfl gRef_r (Nat.le_of_ble_eq_true rfl) [(3, .ref cm), (2, .ref k0), (0, .ref mp), (1, .ref k0)] rfl 7 rfl ?_
  refine g_aload_n hC dJ9_getEntryUsingComparator_7 0 rfl gRef_r 8 rfl ?_
  refine g_ifnull (r := some cm) hC dJ9_getEntryUsingComparator_8 72 rfl 11 rfl (fun q => by cases q) (fun _ _ => ?_)
  refine g_aload_n hC dJ9_getEntryUsingComparator_11 2 rfl gRef_r 12 rfl ?_
  refine g_get (v := va_rf r) hC cI24 hM_0 3 (Nat.le_of_ble_eq_true rfl) q343 rfl dJ9_getEntryUsingComparator_12 15 rfl ?_
  refine g_astore hC dJ9_getEntryUsingComparator_15 gRef_q (Nat.le_of_ble_eq_true rfl) [(4, va_rf r), (3, .ref cm), (2, .ref k0), (0, .ref mp), (1, .ref k0)] rfl 17 rfl ?_
  have loop17 : ∀ (n9 : Nat) (p1 : Option Nat), (hpm : ∀ a9, p1 = some a9 → a9 ∈ Ns) → (hf : ∀ c, c ∈ Ns → ky c = k → ∃ a9, p1 = some a9 ∧ inI (kyR ky) lo hi a9 c) → twO Ns (kyR ky) lo hi p1 < n9 → (M mp = some (t0, .inr (24, [.null, .null, .ref cm, va_rf r, .int (nI n), .int mc, .null, va_rf ks, .null]))) → (M cm = some ((0, 5), .inr (5, []))) → (tmE M t1 Ns kb vl lf rt pa co) → (tmB M G Ns kb ky) → gJ p l e ({ frames := 3, cells := 0, slots := 0, locals := 65 } : Room) s m ([.ref mp, .ref k0] : List Value).toArray below meth c G 6 (MQ below (gQq G (fun r9 M9 k9 => r9 = (tmF Ns ky k) ∧ M9 = M ∧ k9 = 0)) ([.ref mp, .ref k0] : List Value).toArray s 0 0 (gA G)) 0 0 M 17 [(0, .ref mp), (1, .ref k0), (2, .ref k0), (3, .ref cm), (4, va_rf p1)] [] := by
    intro n9
    induction n9 with
    | zero => intro p1 hpm hf hmu; exact absurd hmu (Nat.not_lt_zero _)
    | succ n9 ih =>
      intro p1 hpm hf hmu hL_0 hL_1 hLp_0 hLp_1
      refine g_aload hC dJ9_getEntryUsingComparator_17 4 rfl gRef_q 19 rfl ?_
      refine g_ifnull hC dJ9_getEntryUsingComparator_19 72 rfl 22 rfl (fun e_3 => ?_) (fun x_2 e_3 => ?_)
      · subst e_3
        refine g_null hC dJ9_getEntryUsingComparator_72 73 rfl ?_
        exact g_aret (v := none) hC (by first | exact Or.inl ⟨_, rfl⟩ | exact Or.inr ⟨_, rfl⟩) (fun k9 hk9 => ⟨(tmF_none (fun c hc e => by obtain ⟨a9, q1, -⟩ := hf c hc e; cases q1)).symm, rfl, Nat.le_zero.mp hk9⟩) dJ9_getEntryUsingComparator_73 (Nat.le_of_ble_eq_true rfl) (Nat.le_of_ble_eq_true rfl)
      · subst e_3
        have ham : x_2 ∈ Ns := hpm x_2 rfl
        refine g_aload_n hC dJ9_getEntryUsingComparator_22 3 rfl gRef_r 23 rfl ?_
        refine g_aload_n hC dJ9_getEntryUsingComparator_23 2 rfl gRef_r 24 rfl ?_
        refine g_aload hC dJ9_getEntryUsingComparator_24 4 rfl gRef_r 26 rfl ?_
        refine g_get (v := .ref (kb x_2)) hC cI25 (hLp_0 x_2 ham) 0 (Nat.le_of_ble_eq_true rfl) q1024 rfl dJ9_getEntryUsingComparator_26 29 rfl ?_
        refine g_callFiP (g_F (n := 2) (As := [.ref k0, .ref (kb x_2)]) (rest := []) hC ⟨by decide +kernel, q607, q609, q118, q611, by decide +kernel⟩ q603 (gOf.of hC.K cI5 hL_1) (hC.at cI5) (met_byId l G M cm (0, 5) k0 (kb x_2) k (ky x_2) hk (hP_1 x_2 ham) hL_1) ⟨rfl, rfl⟩ ⟨(Nat.le_of_ble_eq_true rfl), (Nat.le_of_ble_eq_true rfl)⟩ rfl (Nat.le_of_ble_eq_true rfl) dJ9_getEntryUsingComparator_29 rfl ⟨(Nat.le_of_ble_eq_true rfl), (Nat.le_of_ble_eq_true rfl)⟩) 34 rfl 0 (Nat.le_of_ble_eq_true rfl) ?_
        refine g_istore hC dJ9_getEntryUsingComparator_34 (Nat.le_of_ble_eq_true rfl) [(5, .int (cmpI k (ky x_2))), (0, .ref mp), (1, .ref k0), (2, .ref k0), (3, .ref cm), (4, .ref x_2)] rfl 36 rfl ?_
        refine g_iload hC dJ9_getEntryUsingComparator_36 0 rfl 38 rfl ?_
        refine g_if_ge hC dJ9_getEntryUsingComparator_38 51 rfl 41 rfl (fun c_4 => ?_) (fun c_4 => ?_)
        · refine g_iload hC dJ9_getEntryUsingComparator_51 0 rfl 53 rfl ?_
          refine g_if_le hC dJ9_getEntryUsingComparator_53 66 rfl 56 rfl (fun c_5 => ?_) (fun c_5 => ?_)
          · refine g_aload hC dJ9_getEntryUsingComparator_66 5 rfl gRef_r 68 rfl ?_
            exact g_aret (v := some x_2) hC (by first | exact Or.inl ⟨_, rfl⟩ | exact Or.inr ⟨_, rfl⟩) (fun k9 hk9 => ⟨((tmF_some ham (by have h1 := Int32.not_lt.mpr c_4; have h2 := Int32.not_lt.mpr c_5; rw [cmpI_lt] at h1; rw [cmpI_gt] at h2; exact (Int32.le_antisymm (Int32.not_lt.mp h1) (Int32.not_lt.mp h2))) (fun c hc e => hI.inj hc ham (by have h1 := Int32.not_lt.mpr c_4; have h2 := Int32.not_lt.mpr c_5; rw [cmpI_lt] at h1; rw [cmpI_gt] at h2; exact e.trans (Int32.le_antisymm (Int32.not_lt.mp h2) (Int32.not_lt.mp h1))))).symm), rfl, Nat.le_zero.mp hk9⟩) dJ9_getEntryUsingComparator_68 (Nat.le_of_ble_eq_true rfl) (Nat.le_of_ble_eq_true rfl)
          · refine g_aload hC dJ9_getEntryUsingComparator_56 5 rfl gRef_r 58 rfl ?_
            refine g_get (v := va_rf (rt x_2)) hC cI25 (hLp_0 x_2 ham) 3 (Nat.le_of_ble_eq_true rfl) q1030 rfl dJ9_getEntryUsingComparator_58 61 rfl ?_
            refine g_astore hC dJ9_getEntryUsingComparator_61 gRef_q (Nat.le_of_ble_eq_true rfl) [(4, va_rf (rt x_2)), (5, .int (cmpI k (ky x_2))), (0, .ref mp), (1, .ref k0), (2, .ref k0), (3, .ref cm)] rfl 63 rfl ?_
            refine g_goto hC dJ9_getEntryUsingComparator_63 69 rfl ?_
            refine g_goto hC dJ9_getEntryUsingComparator_69 17 rfl ?_
            refine gJ.sub (M' := M) [2, 3, 4, 5, 0] rfl ?_
            exact ih (rt x_2) (fun a9 h9 => (hI.rtm ham h9).1) (fun c hc e => by obtain ⟨a9, q1, q2⟩ := hf c hc e; cases q1; have h1 := cmpI_gt.mp (Int32.not_le.mp c_5); rw [← e] at h1; exact hI.goR ham hc q2 (kyR_lt.mpr h1)) (by cases q : rt x_2 with | none => simp only [twO] at hmu ⊢; omega | some b9 => have h1 := hI.wR ham q; simp only [twO] at hmu ⊢; omega) hL_0 hL_1 hLp_0 hLp_1
        · refine g_aload hC dJ9_getEntryUsingComparator_41 5 rfl gRef_r 43 rfl ?_
          refine g_get (v := va_rf (lf x_2)) hC cI25 (hLp_0 x_2 ham) 2 (Nat.le_of_ble_eq_true rfl) q1028 rfl dJ9_getEntryUsingComparator_43 46 rfl ?_
          refine g_astore hC dJ9_getEntryUsingComparator_46 gRef_q (Nat.le_of_ble_eq_true rfl) [(4, va_rf (lf x_2)), (5, .int (cmpI k (ky x_2))), (0, .ref mp), (1, .ref k0), (2, .ref k0), (3, .ref cm)] rfl 48 rfl ?_
          refine g_goto hC dJ9_getEntryUsingComparator_48 69 rfl ?_
          refine g_goto hC dJ9_getEntryUsingComparator_69 17 rfl ?_
          refine gJ.sub (M' := M) [2, 3, 4, 5, 0] rfl ?_
          exact ih (lf x_2) (fun a9 h9 => (hI.lfm ham h9).1) (fun c hc e => by obtain ⟨a9, q1, q2⟩ := hf c hc e; cases q1; have h1 := cmpI_lt.mp (Int32.not_le.mp c_4); rw [← e] at h1; exact hI.goL ham hc q2 (kyR_lt.mpr h1)) (by cases q : lf x_2 with | none => simp only [twO] at hmu ⊢; omega | some b9 => have h1 := hI.wL ham q; simp only [twO] at hmu ⊢; omega) hL_0 hL_1 hLp_0 hLp_1
  refine gJ.sub (M' := M) [3, 4, 2, 1, 0] rfl ?_
  exact loop17 _ r (fun a9 h9 => (hI.2.1 a9 h9).1) (fun c hc e => by obtain ⟨r9, q1, -⟩ := hI.rt0 hc; obtain ⟨-, -, e3, e4⟩ := hI.2.1 r9 q1; exact ⟨r9, q1, fun u hu => (by rw [e3] at hu; cases hu), fun u hu => (by rw [e4] at hu; cases hu)⟩) (Nat.lt_succ_self _) hM_0 hM_1 hP_0 hP_1
set_option maxHeartbeats 4000000 in
theorem met_TM_getEntry (l : Launch) (G : gG) (M : gM) (mp : Nat) (t0 : Nat × Nat) (cm : Nat) (r : Option Nat) (n : Nat) (mc : Int32) (ks : Option Nat) (t1 : Nat × Nat) (Ns : List Nat) (kb : Nat → Nat) (vl : Nat → Nat) (lf : Nat → Option Nat) (rt : Nat → Option Nat) (pa : Nat → Option Nat) (co : Nat → Bool) (ky : Nat → Int32) (lo : Nat → Option Nat) (hi : Nat → Option Nat) (k0 : Nat) (k : Int32) (hI : tmI r Ns (kyR ky) lf rt pa lo hi) (hS : tmS Ns ky) (hk : gBox G M k0 k) (hM_0 : M mp = some (t0, .inr (24, [.null, .null, .ref cm, va_rf r, .int (nI n), .int mc, .null, va_rf ks, .null]))) (hM_1 : M cm = some ((0, 5), .inr (5, []))) (hP_0 : tmE M t1 Ns kb vl lf rt pa co) (hP_1 : tmB M G Ns kb ky) : Met l yJ9_getEntry (ws_ yJ9_getEntry cJ9_getEntry 5 (some (.object "java/util/TreeMap$Entry"))) ({ frames := 4, cells := 0, slots := 0, locals := 90 }) (gPc G [.ref mp, .ref k0] M) (gQq G (fun r9 M9 k9 => r9 = (tmF Ns ky k) ∧ M9 = M ∧ k9 = 0)) 0 0 (gA G) := by
  refine gMet [(0, .ref mp), (1, .ref k0)] (by decide) (Nat.le_of_ble_eq_true rfl) rfl ?_
  intro p e s m below meth c hC
  refine g_aload_n hC dJ9_getEntry_0 0 rfl gRef_r 1 rfl ?_
  refine g_get (v := .ref cm) hC cI24 hM_0 2 (Nat.le_of_ble_eq_true rfl) q342 rfl dJ9_getEntry_1 4 rfl ?_
  refine g_ifnull (r := some cm) hC dJ9_getEntry_4 13 rfl 7 rfl (fun q => by cases q) (fun _ _ => ?_)
  refine g_aload_n hC dJ9_getEntry_7 0 rfl gRef_r 8 rfl ?_
  refine g_aload_n hC dJ9_getEntry_8 1 rfl gRef_r 9 rfl ?_
  refine g_callqP (g_V (As := [.ref k0]) (rest := []) hC mvJ9_getEntryUsingComparator q598 (gOf.of hC.K cI24 hM_0) (met_TM_getUC l G M mp t0 cm r n mc ks t1 Ns kb vl lf rt pa co ky lo hi k0 k hI hS hk hM_0 hM_1 hP_0 hP_1) ⟨rfl, rfl⟩ ⟨(Nat.le_of_ble_eq_true rfl), (Nat.le_of_ble_eq_true rfl)⟩ rfl (Nat.le_of_ble_eq_true rfl) dJ9_getEntry_9 rfl ⟨(Nat.le_of_ble_eq_true rfl), (Nat.le_of_ble_eq_true rfl)⟩) 12 rfl 0 (Nat.le_of_ble_eq_true rfl) ?_
  exact g_aret (v := tmF Ns ky k) hC (by first | exact Or.inl ⟨_, rfl⟩ | exact Or.inr ⟨_, rfl⟩) (fun k9 hk9 => ⟨rfl, rfl, Nat.le_zero.mp hk9⟩) dJ9_getEntry_12 (Nat.le_of_ble_eq_true rfl) (Nat.le_of_ble_eq_true rfl)
set_option maxHeartbeats 4000000 in
theorem met_TM_containsKey0 (l : Launch) (G : gG) (M : gM) (mp : Nat) (t0 : Nat × Nat) (cm : Nat) (r : Option Nat) (n : Nat) (mc : Int32) (ks : Option Nat) (t1 : Nat × Nat) (Ns : List Nat) (kb : Nat → Nat) (vl : Nat → Nat) (lf : Nat → Option Nat) (rt : Nat → Option Nat) (pa : Nat → Option Nat) (co : Nat → Bool) (ky : Nat → Int32) (lo : Nat → Option Nat) (hi : Nat → Option Nat) (k0 : Nat) (k : Int32) (hI : tmI r Ns (kyR ky) lf rt pa lo hi) (hS : tmS Ns ky) (hk : gBox G M k0 k) (hM_0 : M mp = some (t0, .inr (24, [.null, .null, .ref cm, va_rf r, .int (nI n), .int mc, .null, va_rf ks, .null]))) (hM_1 : M cm = some ((0, 5), .inr (5, []))) (hP_0 : tmE M t1 Ns kb vl lf rt pa co) (hP_1 : tmB M G Ns kb ky) : Met l yJ9_containsKey (ws_ yJ9_containsKey cJ9_containsKey 2 (some .boolean)) ({ frames := 5, cells := 0, slots := 0, locals := 114 }) (gPc G [.ref mp, .ref k0] M) (gQi G (fun r9 M9 k9 => r9 = (bI (tmF Ns ky k).isSome) ∧ M9 = M ∧ k9 = 0)) 0 0 (gA G) := by
  refine gMet [(0, .ref mp), (1, .ref k0)] (by decide) (Nat.le_of_ble_eq_true rfl) rfl ?_
  intro p e s m below meth c hC
  refine g_aload_n hC dJ9_containsKey_0 0 rfl gRef_r 1 rfl ?_
  refine g_aload_n hC dJ9_containsKey_1 1 rfl gRef_r 2 rfl ?_
  refine g_callqP (g_V (As := [.ref k0]) (rest := []) hC mvJ9_getEntry q594 (gOf.of hC.K cI24 hM_0) (met_TM_getEntry l G M mp t0 cm r n mc ks t1 Ns kb vl lf rt pa co ky lo hi k0 k hI hS hk hM_0 hM_1 hP_0 hP_1) ⟨rfl, rfl⟩ ⟨(Nat.le_of_ble_eq_true rfl), (Nat.le_of_ble_eq_true rfl)⟩ rfl (Nat.le_of_ble_eq_true rfl) dJ9_containsKey_2 rfl ⟨(Nat.le_of_ble_eq_true rfl), (Nat.le_of_ble_eq_true rfl)⟩) 5 rfl 0 (Nat.le_of_ble_eq_true rfl) ?_
  refine g_ifnull hC dJ9_containsKey_5 12 rfl 8 rfl (fun e_2 => ?_) (fun x_1 e_2 => ?_)
  · refine g_iconst hC dJ9_containsKey_12 ki_0 13 rfl ?_
    exact g_zret (v := 0) hC (by decide) (fun k9 hk9 => ⟨(by rw [e_2]; rfl), rfl, Nat.le_zero.mp hk9⟩) dJ9_containsKey_13 (Nat.le_of_ble_eq_true rfl) (Nat.le_of_ble_eq_true rfl)
  · refine g_iconst hC dJ9_containsKey_8 ki_1 9 rfl ?_
    refine g_goto hC dJ9_containsKey_9 13 rfl ?_
    exact g_zret (v := 1) hC (by decide) (fun k9 hk9 => ⟨(by rw [e_2]; rfl), rfl, Nat.le_zero.mp hk9⟩) dJ9_containsKey_13 (Nat.le_of_ble_eq_true rfl) (Nat.le_of_ble_eq_true rfl)
set_option maxHeartbeats 4000000 in
theorem met_TM_get0 (l : Launch) (G : gG) (M : gM) (mp : Nat) (t0 : Nat × Nat) (cm : Nat) (r : Option Nat) (n : Nat) (mc : Int32) (ks : Option Nat) (t1 : Nat × Nat) (Ns : List Nat) (kb : Nat → Nat) (vl : Nat → Nat) (lf : Nat → Option Nat) (rt : Nat → Option Nat) (pa : Nat → Option Nat) (co : Nat → Bool) (ky : Nat → Int32) (lo : Nat → Option Nat) (hi : Nat → Option Nat) (k0 : Nat) (k : Int32) (hI : tmI r Ns (kyR ky) lf rt pa lo hi) (hS : tmS Ns ky) (hk : gBox G M k0 k) (hM_0 : M mp = some (t0, .inr (24, [.null, .null, .ref cm, va_rf r, .int (nI n), .int mc, .null, va_rf ks, .null]))) (hM_1 : M cm = some ((0, 5), .inr (5, []))) (hP_0 : tmE M t1 Ns kb vl lf rt pa co) (hP_1 : tmB M G Ns kb ky) : Met l yJ9_get (ws_ yJ9_get cJ9_get 3 (some (.object "java/lang/Object"))) ({ frames := 5, cells := 0, slots := 0, locals := 114 }) (gPc G [.ref mp, .ref k0] M) (gQq G (fun r9 M9 k9 => r9 = ((tmF Ns ky k).map vl) ∧ M9 = M ∧ k9 = 0)) 0 0 (gA G) := by
  refine gMet [(0, .ref mp), (1, .ref k0)] (by decide) (Nat.le_of_ble_eq_true rfl) rfl ?_
  intro p e s m below meth c hC
  refine g_aload_n hC dJ9_get_0 0 rfl gRef_r 1 rfl ?_
  refine g_aload_n hC dJ9_get_1 1 rfl gRef_r 2 rfl ?_
  refine g_callqP (g_V (As := [.ref k0]) (rest := []) hC mvJ9_getEntry q594 (gOf.of hC.K cI24 hM_0) (met_TM_getEntry l G M mp t0 cm r n mc ks t1 Ns kb vl lf rt pa co ky lo hi k0 k hI hS hk hM_0 hM_1 hP_0 hP_1) ⟨rfl, rfl⟩ ⟨(Nat.le_of_ble_eq_true rfl), (Nat.le_of_ble_eq_true rfl)⟩ rfl (Nat.le_of_ble_eq_true rfl) dJ9_get_2 rfl ⟨(Nat.le_of_ble_eq_true rfl), (Nat.le_of_ble_eq_true rfl)⟩) 5 rfl 0 (Nat.le_of_ble_eq_true rfl) ?_
  refine g_astore_n hC dJ9_get_5 rfl gRef_q (Nat.le_of_ble_eq_true rfl) [(2, va_rf (tmF Ns ky k)), (0, .ref mp), (1, .ref k0)] rfl 6 rfl ?_
  refine g_aload_n hC dJ9_get_6 0 rfl gRef_q 7 rfl ?_
  refine g_ifnonnull hC dJ9_get_7 14 rfl 10 rfl (fun x_1 e_2 => ?_) (fun e_2 => ?_)
  · refine g_lv (lv' := [(2, .ref x_1), (0, .ref mp), (1, .ref k0)]) (by rw [e_2]; rfl) ?_
    obtain ⟨ham, hak⟩ := tmF_mem e_2
    refine g_aload_n hC dJ9_get_14 0 rfl gRef_r 15 rfl ?_
    refine g_get (v := .ref (vl x_1)) hC cI25 (hP_0 x_1 ham) 1 (Nat.le_of_ble_eq_true rfl) q1026 rfl dJ9_get_15 18 rfl ?_
    exact g_aret (v := some (vl x_1)) hC (by first | exact Or.inl ⟨_, rfl⟩ | exact Or.inr ⟨_, rfl⟩) (fun k9 hk9 => ⟨(by rw [e_2]; rfl), rfl, Nat.le_zero.mp hk9⟩) dJ9_get_18 (Nat.le_of_ble_eq_true rfl) (Nat.le_of_ble_eq_true rfl)
  · refine g_lv (lv' := [(2, .null), (0, .ref mp), (1, .ref k0)]) (by rw [e_2]; rfl) ?_
    refine g_null hC dJ9_get_10 11 rfl ?_
    refine g_goto hC dJ9_get_11 18 rfl ?_
    exact g_aret (v := none) hC (by first | exact Or.inl ⟨_, rfl⟩ | exact Or.inr ⟨_, rfl⟩) (fun k9 hk9 => ⟨(by rw [e_2]; rfl), rfl, Nat.le_zero.mp hk9⟩) dJ9_get_18 (Nat.le_of_ble_eq_true rfl) (Nat.le_of_ble_eq_true rfl)
