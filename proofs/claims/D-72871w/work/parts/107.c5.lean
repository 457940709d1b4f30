/-! TreeMap: entries as a family of cells; helpers, turns -/
set_option maxRecDepth 100000
def tmE (M : gM) (t : Nat × Nat) (Ns : List Nat) (kb vl : Nat → Nat) (lf rt pa : Nat → Option Nat) (co : Nat → Bool) : Prop := ∀ a ∈ Ns, M a = some (t, .inr (25, [.ref (kb a), .ref (vl a), va_rf (lf a), va_rf (rt a), va_rf (pa a), .int (bI (co a))]))
theorem tmE.fr {M : gM} {t : Nat × Nat} {Ns : List Nat} {kb vl : Nat → Nat} {lf rt pa : Nat → Option Nat} {co : Nat → Bool} {M' : gM} (h : tmE M t Ns kb vl lf rt pa co) (hF : gFr (gT (fun t' => ¬ tgE t.1 t.2 t')) M M') : tmE M' t Ns kb vl lf rt pa co := fun a ha => hF _ _ _ (h a ha) (fun q => q ⟨rfl, rfl⟩)
theorem tmE.s0 {M : gM} {t : Nat × Nat} {Ns : List Nat} {kb vl : Nat → Nat} {lf rt pa : Nat → Option Nat} {co : Nat → Bool} {M' : gM} (h : tmE M t Ns kb vl lf rt pa co) {x : Nat} {v : Nat} (hU : gUp M M' x (t, .inr (25, [.ref v, .ref (vl x), va_rf (lf x), va_rf (rt x), va_rf (pa x), .int (bI (co x))]))) : tmE M' t Ns (va_up kb x v) vl lf rt pa co := by
  intro a ha
  by_cases e : a = x
  · subst e; rw [va_up_self]; exact hU.1
  · rw [va_up_ne _ _ e]; exact hU.n e (h a ha)
theorem tmE.s1 {M : gM} {t : Nat × Nat} {Ns : List Nat} {kb vl : Nat → Nat} {lf rt pa : Nat → Option Nat} {co : Nat → Bool} {M' : gM} (h : tmE M t Ns kb vl lf rt pa co) {x : Nat} {v : Nat} (hU : gUp M M' x (t, .inr (25, [.ref (kb x), .ref v, va_rf (lf x), va_rf (rt x), va_rf (pa x), .int (bI (co x))]))) : tmE M' t Ns kb (va_up vl x v) lf rt pa co := by
  intro a ha
  by_cases e : a = x
  · subst e; rw [va_up_self]; exact hU.1
  · rw [va_up_ne _ _ e]; exact hU.n e (h a ha)
theorem tmE.s2 {M : gM} {t : Nat × Nat} {Ns : List Nat} {kb vl : Nat → Nat} {lf rt pa : Nat → Option Nat} {co : Nat → Bool} {M' : gM} (h : tmE M t Ns kb vl lf rt pa co) {x : Nat} {v : Option Nat} (hU : gUp M M' x (t, .inr (25, [.ref (kb x), .ref (vl x), va_rf v, va_rf (rt x), va_rf (pa x), .int (bI (co x))]))) : tmE M' t Ns kb vl (va_up lf x v) rt pa co := by
  intro a ha
  by_cases e : a = x
  · subst e; rw [va_up_self]; exact hU.1
  · rw [va_up_ne _ _ e]; exact hU.n e (h a ha)
theorem tmE.s3 {M : gM} {t : Nat × Nat} {Ns : List Nat} {kb vl : Nat → Nat} {lf rt pa : Nat → Option Nat} {co : Nat → Bool} {M' : gM} (h : tmE M t Ns kb vl lf rt pa co) {x : Nat} {v : Option Nat} (hU : gUp M M' x (t, .inr (25, [.ref (kb x), .ref (vl x), va_rf (lf x), va_rf v, va_rf (pa x), .int (bI (co x))]))) : tmE M' t Ns kb vl lf (va_up rt x v) pa co := by
  intro a ha
  by_cases e : a = x
  · subst e; rw [va_up_self]; exact hU.1
  · rw [va_up_ne _ _ e]; exact hU.n e (h a ha)
theorem tmE.s4 {M : gM} {t : Nat × Nat} {Ns : List Nat} {kb vl : Nat → Nat} {lf rt pa : Nat → Option Nat} {co : Nat → Bool} {M' : gM} (h : tmE M t Ns kb vl lf rt pa co) {x : Nat} {v : Option Nat} (hU : gUp M M' x (t, .inr (25, [.ref (kb x), .ref (vl x), va_rf (lf x), va_rf (rt x), va_rf v, .int (bI (co x))]))) : tmE M' t Ns kb vl lf rt (va_up pa x v) co := by
  intro a ha
  by_cases e : a = x
  · subst e; rw [va_up_self]; exact hU.1
  · rw [va_up_ne _ _ e]; exact hU.n e (h a ha)
theorem tmE.s5 {M : gM} {t : Nat × Nat} {Ns : List Nat} {kb vl : Nat → Nat} {lf rt pa : Nat → Option Nat} {co : Nat → Bool} {M' : gM} (h : tmE M t Ns kb vl lf rt pa co) {x : Nat} {v : Bool} (hU : gUp M M' x (t, .inr (25, [.ref (kb x), .ref (vl x), va_rf (lf x), va_rf (rt x), va_rf (pa x), .int (bI v)]))) : tmE M' t Ns kb vl lf rt pa (va_up co x v) := by
  intro a ha
  by_cases e : a = x
  · subst e; rw [va_up_self]; exact hU.1
  · rw [va_up_ne _ _ e]; exact hU.n e (h a ha)
def oB (f : Nat → Option Nat) (x : Option Nat) : Option Nat := x.bind f
def oC (co : Nat → Bool) (x : Option Nat) (b : Bool) : Nat → Bool := match x with | none => co | some a => va_up co a b
def oK (co : Nat → Bool) (x : Option Nat) : Bool := match x with | none => true | some a => co a
set_option maxHeartbeats 4000000 in
theorem met_TM_parentOf_n (l : Launch) (G : gG) (M : gM)    : Met l yJ9_parentOf (ws_ yJ9_parentOf cJ9_parentOf 1 (some (.object "java/util/TreeMap$Entry"))) ({ frames := 0, cells := 0, slots := 0, locals := 0 }) (gPc G [.null] M) (gQq G (fun r9 M9 k9 => r9 = none ∧ M9 = M ∧ k9 = 0)) 0 0 (gA G) := by
  refine gMet [(0, .null)] (by decide) (Nat.le_of_ble_eq_true rfl) rfl ?_
  intro p e s m below meth c hC
  refine g_aload_n hC dJ9_parentOf_0 0 rfl gRef_n 1 rfl ?_
  refine g_ifnonnull (r := none) hC dJ9_parentOf_1 8 rfl 4 rfl (fun _ q => by cases q) (fun _ => ?_)
  refine g_null hC dJ9_parentOf_4 5 rfl ?_
  refine g_goto hC dJ9_parentOf_5 12 rfl ?_
  exact g_aret (v := none) hC (by first | exact Or.inl ⟨_, rfl⟩ | exact Or.inr ⟨_, rfl⟩) (fun k9 hk9 => ⟨rfl, rfl, Nat.le_zero.mp hk9⟩) dJ9_parentOf_12 (Nat.le_of_ble_eq_true rfl) (Nat.le_of_ble_eq_true rfl)
set_option maxHeartbeats 4000000 in
theorem met_TM_parentOf (l : Launch) (G : gG) (M : gM) (t1 : Nat × Nat) (Ns : List Nat) (kb : Nat → Nat) (vl : Nat → Nat) (lf : Nat → Option Nat) (rt : Nat → Option Nat) (pa : Nat → Option Nat) (co : Nat → Bool) (a : Nat) (ha : a ∈ Ns)  (hP_0 : tmE M t1 Ns kb vl lf rt pa co) : Met l yJ9_parentOf (ws_ yJ9_parentOf cJ9_parentOf 1 (some (.object "java/util/TreeMap$Entry"))) ({ frames := 0, cells := 0, slots := 0, locals := 0 }) (gPc G [.ref a] M) (gQq G (fun r9 M9 k9 => r9 = (pa a) ∧ M9 = M ∧ k9 = 0)) 0 0 (gA G) := by
  refine gMet [(0, .ref a)] (by decide) (Nat.le_of_ble_eq_true rfl) rfl ?_
  intro p e s m below meth c hC
  refine g_aload_n hC dJ9_parentOf_0 0 rfl gRef_r 1 rfl ?_
  refine g_ifnonnull (r := some a) hC dJ9_parentOf_1 8 rfl 4 rfl (fun _ _ => ?_) (fun q => by cases q)
  refine g_aload_n hC dJ9_parentOf_8 0 rfl gRef_r 9 rfl ?_
  refine g_get (v := va_rf (pa a)) hC cI25 (hP_0 a ha) 4 (Nat.le_of_ble_eq_true rfl) q1032 rfl dJ9_parentOf_9 12 rfl ?_
  exact g_aret (v := pa a) hC (by first | exact Or.inl ⟨_, rfl⟩ | exact Or.inr ⟨_, rfl⟩) (fun k9 hk9 => ⟨rfl, rfl, Nat.le_zero.mp hk9⟩) dJ9_parentOf_12 (Nat.le_of_ble_eq_true rfl) (Nat.le_of_ble_eq_true rfl)
set_option maxHeartbeats 4000000 in
theorem met_TM_parentOf_q (l : Launch) (G : gG) (M : gM) (t1 : Nat × Nat) (Ns : List Nat) (kb : Nat → Nat) (vl : Nat → Nat) (lf : Nat → Option Nat) (rt : Nat → Option Nat) (pa : Nat → Option Nat) (co : Nat → Bool) (x : Option Nat) (hx : ∀ a, x = some a → a ∈ Ns)  (hP_0 : tmE M t1 Ns kb vl lf rt pa co) : Met l yJ9_parentOf (ws_ yJ9_parentOf cJ9_parentOf 1 (some (.object "java/util/TreeMap$Entry"))) ({ frames := 0, cells := 0, slots := 0, locals := 0 }) (gPc G [va_rf x] M) (gQq G (fun r9 M9 k9 => r9 = (oB pa x) ∧ M9 = M ∧ k9 = 0)) 0 0 (gA G) := by
  cases x with
  | none => exact met_TM_parentOf_n l G M
  | some a => exact met_TM_parentOf l G M t1 Ns kb vl lf rt pa co a (hx a rfl) hP_0
set_option maxHeartbeats 4000000 in
theorem met_TM_leftOf_n (l : Launch) (G : gG) (M : gM)    : Met l yJ9_leftOf (ws_ yJ9_leftOf cJ9_leftOf 1 (some (.object "java/util/TreeMap$Entry"))) ({ frames := 0, cells := 0, slots := 0, locals := 0 }) (gPc G [.null] M) (gQq G (fun r9 M9 k9 => r9 = none ∧ M9 = M ∧ k9 = 0)) 0 0 (gA G) := by
  refine gMet [(0, .null)] (by decide) (Nat.le_of_ble_eq_true rfl) rfl ?_
  intro p e s m below meth c hC
  refine g_aload_n hC dJ9_leftOf_0 0 rfl gRef_n 1 rfl ?_
  refine g_ifnonnull (r := none) hC dJ9_leftOf_1 8 rfl 4 rfl (fun _ q => by cases q) (fun _ => ?_)
  refine g_null hC dJ9_leftOf_4 5 rfl ?_
  refine g_goto hC dJ9_leftOf_5 12 rfl ?_
  exact g_aret (v := none) hC (by first | exact Or.inl ⟨_, rfl⟩ | exact Or.inr ⟨_, rfl⟩) (fun k9 hk9 => ⟨rfl, rfl, Nat.le_zero.mp hk9⟩) dJ9_leftOf_12 (Nat.le_of_ble_eq_true rfl) (Nat.le_of_ble_eq_true rfl)
set_option maxHeartbeats 4000000 in
theorem met_TM_leftOf (l : Launch) (G : gG) (M : gM) (t1 : Nat × Nat) (Ns : List Nat) (kb : Nat → Nat) (vl : Nat → Nat) (lf : Nat → Option Nat) (rt : Nat → Option Nat) (pa : Nat → Option Nat) (co : Nat → Bool) (a : Nat) (ha : a ∈ Ns)  (hP_0 : tmE M t1 Ns kb vl lf rt pa co) : Met l yJ9_leftOf (ws_ yJ9_leftOf cJ9_leftOf 1 (some (.object "java/util/TreeMap$Entry"))) ({ frames := 0, cells := 0, slots := 0, locals := 0 }) (gPc G [.ref a] M) (gQq G (fun r9 M9 k9 => r9 = (lf a) ∧ M9 = M ∧ k9 = 0)) 0 0 (gA G) := by
  refine gMet [(0, .ref a)] (by decide) (Nat.le_of_ble_eq_true rfl) rfl ?_
  intro p e s m below meth c hC
  refine g_aload_n hC dJ9_leftOf_0 0 rfl gRef_r 1 rfl ?_
  refine g_ifnonnull (r := some a) hC dJ9_leftOf_1 8 rfl 4 rfl (fun _ _ => ?_) (fun q => by cases q)
  refine g_aload_n hC dJ9_leftOf_8 0 rfl gRef_r 9 rfl ?_
  refine g_get (v := va_rf (lf a)) hC cI25 (hP_0 a ha) 2 (Nat.le_of_ble_eq_true rfl) q1028 rfl dJ9_leftOf_9 12 rfl ?_
  exact g_aret (v := lf a) hC (by first | exact Or.inl ⟨_, rfl⟩ | exact Or.inr ⟨_, rfl⟩) (fun k9 hk9 => ⟨rfl, rfl, Nat.le_zero.mp hk9⟩) dJ9_leftOf_12 (Nat.le_of_ble_eq_true rfl) (Nat.le_of_ble_eq_true rfl)
set_option maxHeartbeats 4000000 in
theorem met_TM_leftOf_q (l : Launch) (G : gG) (M : gM) (t1 : Nat × Nat) (Ns : List Nat) (kb : Nat → Nat) (vl : Nat → Nat) (lf : Nat → Option Nat) (rt : Nat → Option Nat) (pa : Nat → Option Nat) (co : Nat → Bool) (x : Option Nat) (hx : ∀ a, x = some a → a ∈ Ns)  (hP_0 : tmE M t1 Ns kb vl lf rt pa co) : Met l yJ9_leftOf (ws_ yJ9_leftOf cJ9_leftOf 1 (some (.object "java/util/TreeMap$Entry"))) ({ frames := 0, cells := 0, slots := 0, locals := 0 }) (gPc G [va_rf x] M) (gQq G (fun r9 M9 k9 => r9 = (oB lf x) ∧ M9 = M ∧ k9 = 0)) 0 0 (gA G) := by
  cases x with
  | none => exact met_TM_leftOf_n l G M
  | some a => exact met_TM_leftOf l G M t1 Ns kb vl lf rt pa co a (hx a rfl) hP_0
set_option maxHeartbeats 4000000 in
theorem met_TM_rightOf_n (l : Launch) (G : gG) (M : gM)    : Met l yJ9_rightOf (ws_ yJ9_rightOf cJ9_rightOf 1 (some (.object "java/util/TreeMap$Entry"))) ({ frames := 0, cells := 0, slots := 0, locals := 0 }) (gPc G [.null] M) (gQq G (fun r9 M9 k9 => r9 = none ∧ M9 = M ∧ k9 = 0)) 0 0 (gA G) := by
  refine gMet [(0, .null)] (by decide) (Nat.le_of_ble_eq_true rfl) rfl ?_
  intro p e s m below meth c hC
  refine g_aload_n hC dJ9_rightOf_0 0 rfl gRef_n 1 rfl ?_
  refine g_ifnonnull (r := none) hC dJ9_rightOf_1 8 rfl 4 rfl (fun _ q => by cases q) (fun _ => ?_)
  refine g_null hC dJ9_rightOf_4 5 rfl ?_
  refine g_goto hC dJ9_rightOf_5 12 rfl ?_
  exact g_aret (v := none) hC (by first | exact Or.inl ⟨_, rfl⟩ | exact Or.inr ⟨_, rfl⟩) (fun k9 hk9 => ⟨rfl, rfl, Nat.le_zero.mp hk9⟩) dJ9_rightOf_12 (Nat.le_of_ble_eq_true rfl) (Nat.le_of_ble_eq_true rfl)
set_option maxHeartbeats 4000000 in
theorem met_TM_rightOf (l : Launch) (G : gG) (M : gM) (t1 : Nat × Nat) (Ns : List Nat) (kb : Nat → Nat) (vl : Nat → Nat) (lf : Nat → Option Nat) (rt : Nat → Option Nat) (pa : Nat → Option Nat) (co : Nat → Bool) (a : Nat) (ha : a ∈ Ns)  (hP_0 : tmE M t1 Ns kb vl lf rt pa co) : Met l yJ9_rightOf (ws_ yJ9_rightOf cJ9_rightOf 1 (some (.object "java/util/TreeMap$Entry"))) ({ frames := 0, cells := 0, slots := 0, locals := 0 }) (gPc G [.ref a] M) (gQq G (fun r9 M9 k9 => r9 = (rt a) ∧ M9 = M ∧ k9 = 0)) 0 0 (gA G) := by
  refine gMet [(0, .ref a)] (by decide) (Nat.le_of_ble_eq_true rfl) rfl ?_
  intro p e s m below meth c hC
  refine g_aload_n hC dJ9_rightOf_0 0 rfl gRef_r 1 rfl ?_
  refine g_ifnonnull (r := some a) hC dJ9_rightOf_1 8 rfl 4 rfl (fun _ _ => ?_) (fun q => by cases q)
  refine g_aload_n hC dJ9_rightOf_8 0 rfl gRef_r 9 rfl ?_
  refine g_get (v := va_rf (rt a)) hC cI25 (hP_0 a ha) 3 (Nat.le_of_ble_eq_true rfl) q1030 rfl dJ9_rightOf_9 12 rfl ?_
  exact g_aret (v := rt a) hC (by first | exact Or.inl ⟨_, rfl⟩ | exact Or.inr ⟨_, rfl⟩) (fun k9 hk9 => ⟨rfl, rfl, Nat.le_zero.mp hk9⟩) dJ9_rightOf_12 (Nat.le_of_ble_eq_true rfl) (Nat.le_of_ble_eq_true rfl)
set_option maxHeartbeats 4000000 in
theorem met_TM_rightOf_q (l : Launch) (G : gG) (M : gM) (t1 : Nat × Nat) (Ns : List Nat) (kb : Nat → Nat) (vl : Nat → Nat) (lf : Nat → Option Nat) (rt : Nat → Option Nat) (pa : Nat → Option Nat) (co : Nat → Bool) (x : Option Nat) (hx : ∀ a, x = some a → a ∈ Ns)  (hP_0 : tmE M t1 Ns kb vl lf rt pa co) : Met l yJ9_rightOf (ws_ yJ9_rightOf cJ9_rightOf 1 (some (.object "java/util/TreeMap$Entry"))) ({ frames := 0, cells := 0, slots := 0, locals := 0 }) (gPc G [va_rf x] M) (gQq G (fun r9 M9 k9 => r9 = (oB rt x) ∧ M9 = M ∧ k9 = 0)) 0 0 (gA G) := by
  cases x with
  | none => exact met_TM_rightOf_n l G M
  | some a => exact met_TM_rightOf l G M t1 Ns kb vl lf rt pa co a (hx a rfl) hP_0
set_option maxHeartbeats 4000000 in
theorem met_TM_colorOf_n (l : Launch) (G : gG) (M : gM)    : Met l yJ9_colorOf (ws_ yJ9_colorOf cJ9_colorOf 1 (some .boolean)) ({ frames := 0, cells := 0, slots := 0, locals := 0 }) (gPc G [.null] M) (gQi G (fun r9 M9 k9 => r9 = 1 ∧ M9 = M ∧ k9 = 0)) 0 0 (gA G) := by
  refine gMet [(0, .null)] (by decide) (Nat.le_of_ble_eq_true rfl) rfl ?_
  intro p e s m below meth c hC
  refine g_aload_n hC dJ9_colorOf_0 0 rfl gRef_n 1 rfl ?_
  refine g_ifnonnull (r := none) hC dJ9_colorOf_1 8 rfl 4 rfl (fun _ q => by cases q) (fun _ => ?_)
  refine g_iconst hC dJ9_colorOf_4 ki_1 5 rfl ?_
  refine g_goto hC dJ9_colorOf_5 12 rfl ?_
  exact g_zret (v := 1) hC (by decide) (fun k9 hk9 => ⟨rfl, rfl, Nat.le_zero.mp hk9⟩) dJ9_colorOf_12 (Nat.le_of_ble_eq_true rfl) (Nat.le_of_ble_eq_true rfl)
set_option maxHeartbeats 4000000 in
theorem met_TM_colorOf (l : Launch) (G : gG) (M : gM) (t1 : Nat × Nat) (Ns : List Nat) (kb : Nat → Nat) (vl : Nat → Nat) (lf : Nat → Option Nat) (rt : Nat → Option Nat) (pa : Nat → Option Nat) (co : Nat → Bool) (a : Nat) (ha : a ∈ Ns)  (hP_0 : tmE M t1 Ns kb vl lf rt pa co) : Met l yJ9_colorOf (ws_ yJ9_colorOf cJ9_colorOf 1 (some .boolean)) ({ frames := 0, cells := 0, slots := 0, locals := 0 }) (gPc G [.ref a] M) (gQi G (fun r9 M9 k9 => r9 = (bI (co a)) ∧ M9 = M ∧ k9 = 0)) 0 0 (gA G) := by
  refine gMet [(0, .ref a)] (by decide) (Nat.le_of_ble_eq_true rfl) rfl ?_
  intro p e s m below meth c hC
  refine g_aload_n hC dJ9_colorOf_0 0 rfl gRef_r 1 rfl ?_
  refine g_ifnonnull (r := some a) hC dJ9_colorOf_1 8 rfl 4 rfl (fun _ _ => ?_) (fun q => by cases q)
  refine g_aload_n hC dJ9_colorOf_8 0 rfl gRef_r 9 rfl ?_
  refine g_get (v := .int (bI (co a))) hC cI25 (hP_0 a ha) 5 (Nat.le_of_ble_eq_true rfl) q1034 rfl dJ9_colorOf_9 12 rfl ?_
  exact g_zret (v := bI (co a)) hC (bI_n (co a)) (fun k9 hk9 => ⟨rfl, rfl, Nat.le_zero.mp hk9⟩) dJ9_colorOf_12 (Nat.le_of_ble_eq_true rfl) (Nat.le_of_ble_eq_true rfl)
set_option maxHeartbeats 4000000 in
theorem met_TM_colorOf_q (l : Launch) (G : gG) (M : gM) (t1 : Nat × Nat) (Ns : List Nat) (kb : Nat → Nat) (vl : Nat → Nat) (lf : Nat → Option Nat) (rt : Nat → Option Nat) (pa : Nat → Option Nat) (co : Nat → Bool) (x : Option Nat) (hx : ∀ a, x = some a → a ∈ Ns)  (hP_0 : tmE M t1 Ns kb vl lf rt pa co) : Met l yJ9_colorOf (ws_ yJ9_colorOf cJ9_colorOf 1 (some .boolean)) ({ frames := 0, cells := 0, slots := 0, locals := 0 }) (gPc G [va_rf x] M) (gQi G (fun r9 M9 k9 => r9 = (bI (oK co x)) ∧ M9 = M ∧ k9 = 0)) 0 0 (gA G) := by
  cases x with
  | none => exact met_TM_colorOf_n l G M
  | some a => exact met_TM_colorOf l G M t1 Ns kb vl lf rt pa co a (hx a rfl) hP_0
set_option maxHeartbeats 4000000 in
theorem met_TM_setColor_n (l : Launch) (G : gG) (M : gM) (b : Bool)   : Met l yJ9_setColor (ws_ yJ9_setColor cJ9_setColor 2 none) ({ frames := 0, cells := 0, slots := 0, locals := 0 }) (gPc G [.null, .int (bI b)] M) (gQv G (fun M9 k9 => M9 = M ∧ k9 = 0)) 0 0 (gA G) := by
  refine gMet [(0, .null), (1, .int (bI b))] (by decide) (Nat.le_of_ble_eq_true rfl) rfl ?_
  intro p e s m below meth c hC
  refine g_aload_n hC dJ9_setColor_0 0 rfl gRef_n 1 rfl ?_
  refine g_ifnull (r := none) hC dJ9_setColor_1 9 rfl 4 rfl (fun _ => ?_) (fun _ q => by cases q)
  exact g_vret hC (fun k9 hk9 => ⟨rfl, Nat.le_zero.mp hk9⟩) dJ9_setColor_9 (Nat.le_of_ble_eq_true rfl) (Nat.le_of_ble_eq_true rfl)
set_option maxHeartbeats 4000000 in
theorem met_TM_setColor (l : Launch) (G : gG) (M : gM) (t1 : Nat × Nat) (Ns : List Nat) (kb : Nat → Nat) (vl : Nat → Nat) (lf : Nat → Option Nat) (rt : Nat → Option Nat) (pa : Nat → Option Nat) (co : Nat → Bool) (a : Nat) (b : Bool) (ha : a ∈ Ns)  (hP_0 : tmE M t1 Ns kb vl lf rt pa co) : Met l yJ9_setColor (ws_ yJ9_setColor cJ9_setColor 2 none) ({ frames := 0, cells := 0, slots := 0, locals := 0 }) (gPc G [.ref a, .int (bI b)] M) (gQv G (fun M9 k9 => tmE M9 t1 Ns kb vl lf rt pa (va_up co a b) ∧ gFr (gT (tgE t1.1 t1.2)) M M9 ∧ k9 = 0)) 0 0 (gA G) := by
  refine gMet [(0, .ref a), (1, .int (bI b))] (by decide) (Nat.le_of_ble_eq_true rfl) rfl ?_
  intro p e s m below meth c hC
  refine g_aload_n hC dJ9_setColor_0 0 rfl gRef_r 1 rfl ?_
  refine g_ifnull (r := some a) hC dJ9_setColor_1 9 rfl 4 rfl (fun q => by cases q) (fun _ _ => ?_)
  refine g_aload_n hC dJ9_setColor_4 0 rfl gRef_r 5 rfl ?_
  refine g_iload_n hC dJ9_setColor_5 1 rfl 6 rfl ?_
  refine g_put hC cI25 (hP_0 a ha) 5 (Nat.le_of_ble_eq_true rfl) q1034 rfl (bI_n b) (bI_fit b) (Nat.le_of_ble_eq_true rfl) dJ9_setColor_6 (fs' := [.ref (kb a), .ref (vl a), va_rf (lf a), va_rf (rt a), va_rf (pa a), .int (bI b)]) rfl 9 rfl (fun M2 hU3 => ?_)
  have hE4 : tmE M2 t1 Ns kb vl lf rt pa (va_up co a b) := tmE.s5 hP_0 (v := b) hU3
  exact g_vret hC (fun k9 hk9 => ⟨hE4, (gFr.refl.up hU3 (hP_0 a ha) (show (tgE t1.1 t1.2) t1 by (try simp only [ndT, tgE, gT, tgR, ndT9, tg0, Prod.mk.injEq]); first | done | omega | (simp; done))), (by first | exact Nat.le_zero.mp hk9 | omega)⟩) dJ9_setColor_9 (Nat.le_of_ble_eq_true rfl) (Nat.le_of_ble_eq_true rfl)
theorem rlP_p {lf pa : Nat → Option Nat} {p q : Nat} : rlP lf pa p q p = some q := va_up_self _ _ _
theorem rlP_q {lf pa : Nat → Option Nat} {p q : Nat} (h : q ≠ p) : rlP lf pa p q q = pa p := (va_up_ne _ _ h).trans (va_up_self _ _ _)
theorem rlP_o {lf pa : Nat → Option Nat} {p q a : Nat} (h1 : a ≠ p) (h2 : a ≠ q) (h3 : lf q ≠ some a) : rlP lf pa p q a = pa a := by
  unfold rlP
  rw [va_up_ne _ _ h1, va_up_ne _ _ h2]
  cases hc : lf q with
  | none => rfl
  | some c => exact va_up_ne _ _ (fun e => h3 (by rw [hc, e]))
theorem rlL_q {lf pa : Nat → Option Nat} {p q : Nat} : rlL lf pa p q q = some p := va_up_self _ _ _
theorem rlL_g {lf pa : Nat → Option Nat} {p q g : Nat} (h : pa p = some g) (h2 : lf g = some p) (h3 : g ≠ q) : rlL lf pa p q g = some q := by
  unfold rlL
  rw [va_up_ne _ _ h3, h]
  dsimp only
  rw [if_pos h2, va_up_self]
theorem rlL_o {lf pa : Nat → Option Nat} {p q a : Nat} (h1 : a ≠ q) (h2 : lf a ≠ some p) : rlL lf pa p q a = lf a := by
  unfold rlL
  rw [va_up_ne _ _ h1]
  cases hg : pa p with
  | none => rfl
  | some g =>
    dsimp only
    by_cases h : lf g = some p
    · rw [if_pos h]; exact va_up_ne _ _ (fun e => h2 (by rw [e]; exact h))
    · rw [if_neg h]
theorem rlR_p {lf rt pa : Nat → Option Nat} {p q : Nat} (h : pa p ≠ some p) : rlR lf rt pa p q p = lf q := by
  unfold rlR
  cases hg : pa p with
  | none => exact va_up_self _ _ _
  | some g =>
    dsimp only
    by_cases h9 : lf g = some p
    · rw [if_pos h9]; exact va_up_self _ _ _
    · rw [if_neg h9]; exact (va_up_ne _ _ (fun e => h (by rw [hg, e]))).trans (va_up_self _ _ _)
theorem rlR_g {lf rt pa : Nat → Option Nat} {p q g : Nat} (h : pa p = some g) (h2 : lf g ≠ some p) : rlR lf rt pa p q g = some q := by
  unfold rlR
  rw [h]
  dsimp only
  rw [if_neg h2, va_up_self]
theorem rlR_o {lf rt pa : Nat → Option Nat} {p q a : Nat} (h1 : a ≠ p) (h2 : pa p ≠ some a ∨ lf a = some p) : rlR lf rt pa p q a = rt a := by
  unfold rlR
  cases hg : pa p with
  | none => exact va_up_ne _ _ h1
  | some g =>
    dsimp only
    by_cases hn : lf g = some p
    · rw [if_pos hn]; exact va_up_ne _ _ h1
    · rw [if_neg hn]
      have hag : a ≠ g := by
        intro e
        rcases h2 with h2 | h2
        · exact h2 (by rw [hg, e])
        · exact hn (by rw [← e]; exact h2)
      exact (va_up_ne _ _ hag).trans (va_up_ne _ _ h1)
theorem tmI.nepa {r : Option Nat} {Ns : List Nat} {ρ : Nat → Int} {lf rt pa lo hi : Nat → Option Nat} (h : tmI r Ns ρ lf rt pa lo hi) {a b : Nat} (ha : a ∈ Ns) (hb : pa a = some b) : b ≠ a := fun e => by have := h.wP ha hb; rw [e] at this; omega
theorem tmI.nepa2 {r : Option Nat} {Ns : List Nat} {ρ : Nat → Int} {lf rt pa lo hi : Nat → Option Nat} (h : tmI r Ns ρ lf rt pa lo hi) {a b c : Nat} (ha : a ∈ Ns) (hb : pa a = some b) (hc : pa b = some c) : c ≠ a := fun e => by
  have h1 := h.wP ha hb
  have h2 := h.wP (h.2.2.2.2.2.2.2.2.1 a ha b hb).1 hc
  rw [e] at h2; omega
set_option maxHeartbeats 4000000 in
theorem met_TM_rotL (l : Launch) (G : gG) (M : gM) (mp : Nat) (t0 : Nat × Nat) (cm : Nat) (r : Option Nat) (n : Nat) (mc : Int32) (ks : Option Nat) (t1 : Nat × Nat) (Ns : List Nat) (kb : Nat → Nat) (vl : Nat → Nat) (lf : Nat → Option Nat) (rt : Nat → Option Nat) (pa : Nat → Option Nat) (co : Nat → Bool) (rho : Nat → Int) (lo : Nat → Option Nat) (hi : Nat → Option Nat) (p9 : Nat) (q9 : Nat) (hI : tmI r Ns rho lf rt pa lo hi) (hp : p9 ∈ Ns) (hq : rt p9 = some q9) (ht : ¬ (t0.1 = t1.1 ∧ t0.2 = t1.2)) (hM_0 : M mp = some (t0, .inr (24, [.null, .null, .ref cm, va_rf r, .int (nI n), .int mc, .null, va_rf ks, .null]))) (hP_0 : tmE M t1 Ns kb vl lf rt pa co) : Met l yJ9_rotateLeft (ws_ yJ9_rotateLeft cJ9_rotateLeft 3 none) ({ frames := 0, cells := 0, slots := 0, locals := 0 }) (gPc G [.ref mp, .ref p9] M) (gQv G (fun M9 k9 => M9 mp = some (t0, .inr (24, [.null, .null, .ref cm, va_rf (rlT r pa p9 q9), .int (nI n), .int mc, .null, va_rf ks, .null])) ∧ tmE M9 t1 Ns kb vl (rlL lf pa p9 q9) (rlR lf rt pa p9 q9) (rlP lf pa p9 q9) co ∧ gFr (gT (fun t => tgE t0.1 t0.2 t ∨ tgE t1.1 t1.2 t)) M M9 ∧ k9 = 0)) 0 0 (gA G) := by
  refine gMet [(0, .ref mp), (1, .ref p9)] (by decide) (Nat.le_of_ble_eq_true rfl) rfl ?_
  intro p e s m below meth c hC
  obtain ⟨hq1, hq2, -, -⟩ := hI.2.2.2.2.2.1 p9 hp q9 hq
  have hne : p9 ≠ q9 := hI.nepa hq1 hq2
  refine g_aload_n hC dJ9_rotateLeft_0 1 rfl gRef_r 1 rfl ?_
  refine g_ifnull (r := some p9) hC dJ9_rotateLeft_1 95 rfl 4 rfl (fun q => by cases q) (fun _ _ => ?_)
  refine g_aload_n hC dJ9_rotateLeft_4 1 rfl gRef_r 5 rfl ?_
  refine g_get (v := va_rf (rt p9)) hC cI25 (hP_0 p9 hp) 3 (Nat.le_of_ble_eq_true rfl) q1030 rfl dJ9_rotateLeft_5 8 rfl ?_
  refine g_topv (y := .ref q9) (congrArg va_rf (show rt p9 = some q9 from hq)) ?_
  refine g_astore_n hC dJ9_rotateLeft_8 rfl gRef_r (Nat.le_of_ble_eq_true rfl) [(2, .ref q9), (0, .ref mp), (1, .ref p9)] rfl 9 rfl ?_
  refine g_aload_n hC dJ9_rotateLeft_9 2 rfl gRef_r 10 rfl ?_
  refine g_aload_n hC dJ9_rotateLeft_10 0 rfl gRef_r 11 rfl ?_
  refine g_get (v := va_rf (lf q9)) hC cI25 (hP_0 q9 hq1) 2 (Nat.le_of_ble_eq_true rfl) q1028 rfl dJ9_rotateLeft_11 14 rfl ?_
  refine g_put hC cI25 (hP_0 p9 hp) 3 (Nat.le_of_ble_eq_true rfl) q1030 rfl gq_n gq_f (Nat.le_of_ble_eq_true rfl) dJ9_rotateLeft_14 (fs' := [.ref (kb p9), .ref (vl p9), va_rf (lf p9), va_rf (lf q9), va_rf (pa p9), .int (bI (co p9))]) rfl 17 rfl (fun M2 hU3 => ?_)
  have hE4 : tmE M2 t1 Ns kb vl lf (va_up rt p9 (lf q9)) pa co := tmE.s3 hP_0 (v := lf q9) hU3
  refine g_aload_n hC dJ9_rotateLeft_17 0 rfl gRef_r 18 rfl ?_
  refine g_get (v := va_rf (lf q9)) hC cI25 (hE4 q9 hq1) 2 (Nat.le_of_ble_eq_true rfl) q1028 rfl dJ9_rotateLeft_18 21 rfl ?_
  refine g_ifnull hC dJ9_rotateLeft_21 32 rfl 24 rfl (fun e_6 => ?_) (fun x_5 e_6 => ?_)
  · refine g_aload_n hC dJ9_rotateLeft_32 0 rfl gRef_r 33 rfl ?_
    refine g_aload_n hC dJ9_rotateLeft_33 2 rfl gRef_r 34 rfl ?_
    refine g_get (v := va_rf (pa p9)) hC cI25 (hE4 p9 hp) 4 (Nat.le_of_ble_eq_true rfl) q1032 rfl dJ9_rotateLeft_34 37 rfl ?_
    refine g_put hC cI25 (hE4 q9 hq1) 4 (Nat.le_of_ble_eq_true rfl) q1032 rfl gq_n gq_f (Nat.le_of_ble_eq_true rfl) dJ9_rotateLeft_37 (fs' := [.ref (kb q9), .ref (vl q9), va_rf (lf q9), va_rf ((va_up rt p9 (lf q9)) q9), va_rf (pa p9), .int (bI (co q9))]) rfl 40 rfl (fun M7 hU8 => ?_)
    have hE9 : tmE M7 t1 Ns kb vl lf (va_up rt p9 (lf q9)) (va_up pa q9 (pa p9)) co := tmE.s4 hE4 (v := pa p9) hU8
    refine g_aload_n hC dJ9_rotateLeft_40 2 rfl gRef_r 41 rfl ?_
    refine g_get (v := va_rf ((va_up pa q9 (pa p9)) p9)) hC cI25 (hE9 p9 hp) 4 (Nat.le_of_ble_eq_true rfl) q1032 rfl dJ9_rotateLeft_41 44 rfl ?_
    refine g_topv (y := va_rf (pa p9)) (congrArg va_rf (show (va_up pa q9 (pa p9)) p9 = pa p9 from (by rw [va_up_ne _ _ hne]))) ?_
    refine g_ifnonnull hC dJ9_rotateLeft_44 55 rfl 47 rfl (fun x_10 e_11 => ?_) (fun e_11 => ?_)
    · obtain ⟨hg1, -⟩ := hI.2.2.2.2.2.2.2.2.1 p9 hp x_10 e_11
      have hgp : x_10 ≠ p9 := hI.nepa hp e_11
      have hgq : x_10 ≠ q9 := hI.nepa2 hq1 hq2 e_11
      refine g_aload_n hC dJ9_rotateLeft_55 2 rfl gRef_r 56 rfl ?_
      refine g_get (v := va_rf ((va_up pa q9 (pa p9)) p9)) hC cI25 (hE9 p9 hp) 4 (Nat.le_of_ble_eq_true rfl) q1032 rfl dJ9_rotateLeft_56 59 rfl ?_
      refine g_topv (y := .ref x_10) (congrArg va_rf (show (va_up pa q9 (pa p9)) p9 = some x_10 from (by rw [va_up_ne _ _ hne]; exact e_11))) ?_
      refine g_get (v := va_rf (lf x_10)) hC cI25 (hE9 x_10 hg1) 2 (Nat.le_of_ble_eq_true rfl) q1028 rfl dJ9_rotateLeft_59 62 rfl ?_
      refine g_aload_n hC dJ9_rotateLeft_62 2 rfl gRef_r 63 rfl ?_
      refine g_acmp_ne (rx := lf x_10) (ry := some p9) hC dJ9_rotateLeft_63 77 rfl 66 rfl (fun c_12 => ?_) (fun c_12 => ?_)
      · refine g_aload_n hC dJ9_rotateLeft_77 2 rfl gRef_r 78 rfl ?_
        refine g_get (v := va_rf ((va_up pa q9 (pa p9)) p9)) hC cI25 (hE9 p9 hp) 4 (Nat.le_of_ble_eq_true rfl) q1032 rfl dJ9_rotateLeft_78 81 rfl ?_
        refine g_topv (y := .ref x_10) (congrArg va_rf (show (va_up pa q9 (pa p9)) p9 = some x_10 from (by rw [va_up_ne _ _ hne]; exact e_11))) ?_
        refine g_aload_n hC dJ9_rotateLeft_81 0 rfl gRef_r 82 rfl ?_
        refine g_put hC cI25 (hE9 x_10 hg1) 3 (Nat.le_of_ble_eq_true rfl) q1030 rfl rfl rfl (Nat.le_of_ble_eq_true rfl) dJ9_rotateLeft_82 (fs' := [.ref (kb x_10), .ref (vl x_10), va_rf (lf x_10), .ref q9, va_rf ((va_up pa q9 (pa p9)) x_10), .int (bI (co x_10))]) rfl 85 rfl (fun M13 hU14 => ?_)
        have hE15 : tmE M13 t1 Ns kb vl lf (va_up (va_up rt p9 (lf q9)) x_10 (some q9)) (va_up pa q9 (pa p9)) co := tmE.s3 hE9 (v := some q9) hU14
        have hH16 := (hU14.n (gne_c (hU8.n (gne_c (hU3.n (gne_c hM_0 (hP_0 p9 hp) (by decide)) hM_0) (hE4 q9 hq1) (by decide)) (hU3.n (gne_c hM_0 (hP_0 p9 hp) (by decide)) hM_0)) (hE9 x_10 hg1) (by decide)) (hU8.n (gne_c (hU3.n (gne_c hM_0 (hP_0 p9 hp) (by decide)) hM_0) (hE4 q9 hq1) (by decide)) (hU3.n (gne_c hM_0 (hP_0 p9 hp) (by decide)) hM_0)))
        refine g_aload_n hC dJ9_rotateLeft_85 0 rfl gRef_r 86 rfl ?_
        refine g_aload_n hC dJ9_rotateLeft_86 2 rfl gRef_r 87 rfl ?_
        refine g_put hC cI25 (hE15 q9 hq1) 2 (Nat.le_of_ble_eq_true rfl) q1028 rfl rfl rfl (Nat.le_of_ble_eq_true rfl) dJ9_rotateLeft_87 (fs' := [.ref (kb q9), .ref (vl q9), .ref p9, va_rf ((va_up (va_up rt p9 (lf q9)) x_10 (some q9)) q9), va_rf ((va_up pa q9 (pa p9)) q9), .int (bI (co q9))]) rfl 90 rfl (fun M17 hU18 => ?_)
        have hE19 : tmE M17 t1 Ns kb vl (va_up lf q9 (some p9)) (va_up (va_up rt p9 (lf q9)) x_10 (some q9)) (va_up pa q9 (pa p9)) co := tmE.s2 hE15 (v := some p9) hU18
        refine g_aload_n hC dJ9_rotateLeft_90 2 rfl gRef_r 91 rfl ?_
        refine g_aload_n hC dJ9_rotateLeft_91 0 rfl gRef_r 92 rfl ?_
        refine g_put hC cI25 (hE19 p9 hp) 4 (Nat.le_of_ble_eq_true rfl) q1032 rfl rfl rfl (Nat.le_of_ble_eq_true rfl) dJ9_rotateLeft_92 (fs' := [.ref (kb p9), .ref (vl p9), va_rf ((va_up lf q9 (some p9)) p9), va_rf ((va_up (va_up rt p9 (lf q9)) x_10 (some q9)) p9), .ref q9, .int (bI (co p9))]) rfl 95 rfl (fun M20 hU21 => ?_)
        have hE22 : tmE M20 t1 Ns kb vl (va_up lf q9 (some p9)) (va_up (va_up rt p9 (lf q9)) x_10 (some q9)) (va_up (va_up pa q9 (pa p9)) p9 (some q9)) co := tmE.s4 hE19 (v := some q9) hU21
        exact g_vret hC (fun k9 hk9 => ⟨(by rw [(hU21.n (gne_c (hU18.n (gne_c hH16 (hE15 q9 hq1) (by decide)) hH16) (hE19 p9 hp) (by decide)) (hU18.n (gne_c hH16 (hE15 q9 hq1) (by decide)) hH16))]; simp only [rlT, e_11]; all_goals rfl), (by have hz := hE22; simp only [rlL, rlR, rlP, e_6, e_11, if_neg (fun z => c_12 z)] at hz ⊢; exact hz), (((((gFr.refl.up hU3 (hP_0 p9 hp) (show (fun t => tgE t0.1 t0.2 t ∨ tgE t1.1 t1.2 t) t1 by (try simp only [ndT, tgE, gT, tgR, ndT9, tg0, Prod.mk.injEq]); first | done | omega | (simp; done))).up hU8 (hE4 q9 hq1) (show (fun t => tgE t0.1 t0.2 t ∨ tgE t1.1 t1.2 t) t1 by (try simp only [ndT, tgE, gT, tgR, ndT9, tg0, Prod.mk.injEq]); first | done | omega | (simp; done))).up hU14 (hE9 x_10 hg1) (show (fun t => tgE t0.1 t0.2 t ∨ tgE t1.1 t1.2 t) t1 by (try simp only [ndT, tgE, gT, tgR, ndT9, tg0, Prod.mk.injEq]); first | done | omega | (simp; done))).up hU18 (hE15 q9 hq1) (show (fun t => tgE t0.1 t0.2 t ∨ tgE t1.1 t1.2 t) t1 by (try simp only [ndT, tgE, gT, tgR, ndT9, tg0, Prod.mk.injEq]); first | done | omega | (simp; done))).up hU21 (hE19 p9 hp) (show (fun t => tgE t0.1 t0.2 t ∨ tgE t1.1 t1.2 t) t1 by (try simp only [ndT, tgE, gT, tgR, ndT9, tg0, Prod.mk.injEq]); first | done | omega | (simp; done))), (by first | exact Nat.le_zero.mp hk9 | omega)⟩) dJ9_rotateLeft_95 (Nat.le_of_ble_eq_true rfl) (Nat.le_of_ble_eq_true rfl)
      · refine g_aload_n hC dJ9_rotateLeft_66 2 rfl gRef_r 67 rfl ?_
        refine g_get (v := va_rf ((va_up pa q9 (pa p9)) p9)) hC cI25 (hE9 p9 hp) 4 (Nat.le_of_ble_eq_true rfl) q1032 rfl dJ9_rotateLeft_67 70 rfl ?_
        refine g_topv (y := .ref x_10) (congrArg va_rf (show (va_up pa q9 (pa p9)) p9 = some x_10 from (by rw [va_up_ne _ _ hne]; exact e_11))) ?_
        refine g_aload_n hC dJ9_rotateLeft_70 0 rfl gRef_r 71 rfl ?_
        refine g_put hC cI25 (hE9 x_10 hg1) 2 (Nat.le_of_ble_eq_true rfl) q1028 rfl rfl rfl (Nat.le_of_ble_eq_true rfl) dJ9_rotateLeft_71 (fs' := [.ref (kb x_10), .ref (vl x_10), .ref q9, va_rf ((va_up rt p9 (lf q9)) x_10), va_rf ((va_up pa q9 (pa p9)) x_10), .int (bI (co x_10))]) rfl 74 rfl (fun M23 hU24 => ?_)
        have hE25 : tmE M23 t1 Ns kb vl (va_up lf x_10 (some q9)) (va_up rt p9 (lf q9)) (va_up pa q9 (pa p9)) co := tmE.s2 hE9 (v := some q9) hU24
        have hH26 := (hU24.n (gne_c (hU8.n (gne_c (hU3.n (gne_c hM_0 (hP_0 p9 hp) (by decide)) hM_0) (hE4 q9 hq1) (by decide)) (hU3.n (gne_c hM_0 (hP_0 p9 hp) (by decide)) hM_0)) (hE9 x_10 hg1) (by decide)) (hU8.n (gne_c (hU3.n (gne_c hM_0 (hP_0 p9 hp) (by decide)) hM_0) (hE4 q9 hq1) (by decide)) (hU3.n (gne_c hM_0 (hP_0 p9 hp) (by decide)) hM_0)))
        refine g_goto hC dJ9_rotateLeft_74 85 rfl ?_
        refine g_aload_n hC dJ9_rotateLeft_85 0 rfl gRef_r 86 rfl ?_
        refine g_aload_n hC dJ9_rotateLeft_86 2 rfl gRef_r 87 rfl ?_
        refine g_put hC cI25 (hE25 q9 hq1) 2 (Nat.le_of_ble_eq_true rfl) q1028 rfl rfl rfl (Nat.le_of_ble_eq_true rfl) dJ9_rotateLeft_87 (fs' := [.ref (kb q9), .ref (vl q9), .ref p9, va_rf ((va_up rt p9 (lf q9)) q9), va_rf ((va_up pa q9 (pa p9)) q9), .int (bI (co q9))]) rfl 90 rfl (fun M27 hU28 => ?_)
        have hE29 : tmE M27 t1 Ns kb vl (va_up (va_up lf x_10 (some q9)) q9 (some p9)) (va_up rt p9 (lf q9)) (va_up pa q9 (pa p9)) co := tmE.s2 hE25 (v := some p9) hU28
        refine g_aload_n hC dJ9_rotateLeft_90 2 rfl gRef_r 91 rfl ?_
        refine g_aload_n hC dJ9_rotateLeft_91 0 rfl gRef_r 92 rfl ?_
        refine g_put hC cI25 (hE29 p9 hp) 4 (Nat.le_of_ble_eq_true rfl) q1032 rfl rfl rfl (Nat.le_of_ble_eq_true rfl) dJ9_rotateLeft_92 (fs' := [.ref (kb p9), .ref (vl p9), va_rf ((va_up (va_up lf x_10 (some q9)) q9 (some p9)) p9), va_rf ((va_up rt p9 (lf q9)) p9), .ref q9, .int (bI (co p9))]) rfl 95 rfl (fun M30 hU31 => ?_)
        have hE32 : tmE M30 t1 Ns kb vl (va_up (va_up lf x_10 (some q9)) q9 (some p9)) (va_up rt p9 (lf q9)) (va_up (va_up pa q9 (pa p9)) p9 (some q9)) co := tmE.s4 hE29 (v := some q9) hU31
        exact g_vret hC (fun k9 hk9 => ⟨(by rw [(hU31.n (gne_c (hU28.n (gne_c hH26 (hE25 q9 hq1) (by decide)) hH26) (hE29 p9 hp) (by decide)) (hU28.n (gne_c hH26 (hE25 q9 hq1) (by decide)) hH26))]; simp only [rlT, e_11]; all_goals rfl), (by have hz := hE32; simp only [rlL, rlR, rlP, e_6, e_11, if_pos c_12] at hz ⊢; exact hz), (((((gFr.refl.up hU3 (hP_0 p9 hp) (show (fun t => tgE t0.1 t0.2 t ∨ tgE t1.1 t1.2 t) t1 by (try simp only [ndT, tgE, gT, tgR, ndT9, tg0, Prod.mk.injEq]); first | done | omega | (simp; done))).up hU8 (hE4 q9 hq1) (show (fun t => tgE t0.1 t0.2 t ∨ tgE t1.1 t1.2 t) t1 by (try simp only [ndT, tgE, gT, tgR, ndT9, tg0, Prod.mk.injEq]); first | done | omega | (simp; done))).up hU24 (hE9 x_10 hg1) (show (fun t => tgE t0.1 t0.2 t ∨ tgE t1.1 t1.2 t) t1 by (try simp only [ndT, tgE, gT, tgR, ndT9, tg0, Prod.mk.injEq]); first | done | omega | (simp; done))).up hU28 (hE25 q9 hq1) (show (fun t => tgE t0.1 t0.2 t ∨ tgE t1.1 t1.2 t) t1 by (try simp only [ndT, tgE, gT, tgR, ndT9, tg0, Prod.mk.injEq]); first | done | omega | (simp; done))).up hU31 (hE29 p9 hp) (show (fun t => tgE t0.1 t0.2 t ∨ tgE t1.1 t1.2 t) t1 by (try simp only [ndT, tgE, gT, tgR, ndT9, tg0, Prod.mk.injEq]); first | done | omega | (simp; done))), (by first | exact Nat.le_zero.mp hk9 | omega)⟩) dJ9_rotateLeft_95 (Nat.le_of_ble_eq_true rfl) (Nat.le_of_ble_eq_true rfl)
    · refine g_aload_n hC dJ9_rotateLeft_47 1 rfl gRef_r 48 rfl ?_
      refine g_aload_n hC dJ9_rotateLeft_48 0 rfl gRef_r 49 rfl ?_
      refine g_put hC cI24 (hU8.n (gne_c (hU3.n (gne_c hM_0 (hP_0 p9 hp) (by decide)) hM_0) (hE4 q9 hq1) (by decide)) (hU3.n (gne_c hM_0 (hP_0 p9 hp) (by decide)) hM_0)) 3 (Nat.le_of_ble_eq_true rfl) q343 rfl rfl rfl (Nat.le_of_ble_eq_true rfl) dJ9_rotateLeft_49 (fs' := [.null, .null, .ref cm, .ref q9, .int (nI n), .int mc, .null, va_rf ks, .null]) rfl 52 rfl (fun M33 hU34 => ?_)
      have hH35 : tmE M33 t1 Ns kb vl lf (va_up rt p9 (lf q9)) (va_up pa q9 (pa p9)) co := (tmE.fr hE9 (gFr.refl.up hU34 (hU8.n (gne_c (hU3.n (gne_c hM_0 (hP_0 p9 hp) (by decide)) hM_0) (hE4 q9 hq1) (by decide)) (hU3.n (gne_c hM_0 (hP_0 p9 hp) (by decide)) hM_0)) (show (fun t => ¬ (tgE t1.1 t1.2) t) t0 by (try simp only [ndT, tgE, gT, tgR, ndT9, tg0, Prod.mk.injEq]); first | done | omega | (simp; done))))
      refine g_goto hC dJ9_rotateLeft_52 85 rfl ?_
      refine g_aload_n hC dJ9_rotateLeft_85 0 rfl gRef_r 86 rfl ?_
      refine g_aload_n hC dJ9_rotateLeft_86 2 rfl gRef_r 87 rfl ?_
      refine g_put hC cI25 (hH35 q9 hq1) 2 (Nat.le_of_ble_eq_true rfl) q1028 rfl rfl rfl (Nat.le_of_ble_eq_true rfl) dJ9_rotateLeft_87 (fs' := [.ref (kb q9), .ref (vl q9), .ref p9, va_rf ((va_up rt p9 (lf q9)) q9), va_rf ((va_up pa q9 (pa p9)) q9), .int (bI (co q9))]) rfl 90 rfl (fun M36 hU37 => ?_)
      have hE38 : tmE M36 t1 Ns kb vl (va_up lf q9 (some p9)) (va_up rt p9 (lf q9)) (va_up pa q9 (pa p9)) co := tmE.s2 hH35 (v := some p9) hU37
      refine g_aload_n hC dJ9_rotateLeft_90 2 rfl gRef_r 91 rfl ?_
      refine g_aload_n hC dJ9_rotateLeft_91 0 rfl gRef_r 92 rfl ?_
      refine g_put hC cI25 (hE38 p9 hp) 4 (Nat.le_of_ble_eq_true rfl) q1032 rfl rfl rfl (Nat.le_of_ble_eq_true rfl) dJ9_rotateLeft_92 (fs' := [.ref (kb p9), .ref (vl p9), va_rf ((va_up lf q9 (some p9)) p9), va_rf ((va_up rt p9 (lf q9)) p9), .ref q9, .int (bI (co p9))]) rfl 95 rfl (fun M39 hU40 => ?_)
      have hE41 : tmE M39 t1 Ns kb vl (va_up lf q9 (some p9)) (va_up rt p9 (lf q9)) (va_up (va_up pa q9 (pa p9)) p9 (some q9)) co := tmE.s4 hE38 (v := some q9) hU40
      exact g_vret hC (fun k9 hk9 => ⟨(by rw [(hU40.n (gne_c (hU37.n (gne_c hU34.1 (hH35 q9 hq1) (by decide)) hU34.1) (hE38 p9 hp) (by decide)) (hU37.n (gne_c hU34.1 (hH35 q9 hq1) (by decide)) hU34.1))]; simp only [rlT, e_11]; all_goals rfl), (by have hz := hE41; simp only [rlL, rlR, rlP, e_6, e_11] at hz ⊢; exact hz), (((((gFr.refl.up hU3 (hP_0 p9 hp) (show (fun t => tgE t0.1 t0.2 t ∨ tgE t1.1 t1.2 t) t1 by (try simp only [ndT, tgE, gT, tgR, ndT9, tg0, Prod.mk.injEq]); first | done | omega | (simp; done))).up hU8 (hE4 q9 hq1) (show (fun t => tgE t0.1 t0.2 t ∨ tgE t1.1 t1.2 t) t1 by (try simp only [ndT, tgE, gT, tgR, ndT9, tg0, Prod.mk.injEq]); first | done | omega | (simp; done))).up hU34 (hU8.n (gne_c (hU3.n (gne_c hM_0 (hP_0 p9 hp) (by decide)) hM_0) (hE4 q9 hq1) (by decide)) (hU3.n (gne_c hM_0 (hP_0 p9 hp) (by decide)) hM_0)) (show (fun t => tgE t0.1 t0.2 t ∨ tgE t1.1 t1.2 t) t0 by (try simp only [ndT, tgE, gT, tgR, ndT9, tg0, Prod.mk.injEq]); first | done | omega | (simp; done))).up hU37 (hH35 q9 hq1) (show (fun t => tgE t0.1 t0.2 t ∨ tgE t1.1 t1.2 t) t1 by (try simp only [ndT, tgE, gT, tgR, ndT9, tg0, Prod.mk.injEq]); first | done | omega | (simp; done))).up hU40 (hE38 p9 hp) (show (fun t => tgE t0.1 t0.2 t ∨ tgE t1.1 t1.2 t) t1 by (try simp only [ndT, tgE, gT, tgR, ndT9, tg0, Prod.mk.injEq]); first | done | omega | (simp; done))), (by first | exact Nat.le_zero.mp hk9 | omega)⟩) dJ9_rotateLeft_95 (Nat.le_of_ble_eq_true rfl) (Nat.le_of_ble_eq_true rfl)
  · obtain ⟨hc1, hc2, -, -⟩ := hI.2.2.2.2.1 q9 hq1 x_5 e_6
    have hcq : x_5 ≠ q9 := Ne.symm (hI.nepa hc1 hc2)
    have hcp : x_5 ≠ p9 := Ne.symm (hI.nepa2 hc1 hc2 hq2)
    refine g_aload_n hC dJ9_rotateLeft_24 0 rfl gRef_r 25 rfl ?_
    refine g_get (v := va_rf (lf q9)) hC cI25 (hE4 q9 hq1) 2 (Nat.le_of_ble_eq_true rfl) q1028 rfl dJ9_rotateLeft_25 28 rfl ?_
    refine g_topv (y := .ref x_5) (congrArg va_rf (show lf q9 = some x_5 from e_6)) ?_
    refine g_aload_n hC dJ9_rotateLeft_28 2 rfl gRef_r 29 rfl ?_
    refine g_put hC cI25 (hE4 x_5 hc1) 4 (Nat.le_of_ble_eq_true rfl) q1032 rfl rfl rfl (Nat.le_of_ble_eq_true rfl) dJ9_rotateLeft_29 (fs' := [.ref (kb x_5), .ref (vl x_5), va_rf (lf x_5), va_rf ((va_up rt p9 (lf q9)) x_5), .ref p9, .int (bI (co x_5))]) rfl 32 rfl (fun M42 hU43 => ?_)
    have hE44 : tmE M42 t1 Ns kb vl lf (va_up rt p9 (lf q9)) (va_up pa x_5 (some p9)) co := tmE.s4 hE4 (v := some p9) hU43
    refine g_aload_n hC dJ9_rotateLeft_32 0 rfl gRef_r 33 rfl ?_
    refine g_aload_n hC dJ9_rotateLeft_33 2 rfl gRef_r 34 rfl ?_
    refine g_get (v := va_rf ((va_up pa x_5 (some p9)) p9)) hC cI25 (hE44 p9 hp) 4 (Nat.le_of_ble_eq_true rfl) q1032 rfl dJ9_rotateLeft_34 37 rfl ?_
    refine g_topv (y := va_rf (pa p9)) (congrArg va_rf (show (va_up pa x_5 (some p9)) p9 = pa p9 from (by rw [va_up_ne _ _ (Ne.symm hcp)]))) ?_
    refine g_put hC cI25 (hE44 q9 hq1) 4 (Nat.le_of_ble_eq_true rfl) q1032 rfl gq_n gq_f (Nat.le_of_ble_eq_true rfl) dJ9_rotateLeft_37 (fs' := [.ref (kb q9), .ref (vl q9), va_rf (lf q9), va_rf ((va_up rt p9 (lf q9)) q9), va_rf (pa p9), .int (bI (co q9))]) rfl 40 rfl (fun M45 hU46 => ?_)
    have hE47 : tmE M45 t1 Ns kb vl lf (va_up rt p9 (lf q9)) (va_up (va_up pa x_5 (some p9)) q9 (pa p9)) co := tmE.s4 hE44 (v := pa p9) hU46
    have hH48 := (hU46.n (gne_c (hU43.n (gne_c (hU3.n (gne_c hM_0 (hP_0 p9 hp) (by decide)) hM_0) (hE4 x_5 hc1) (by decide)) (hU3.n (gne_c hM_0 (hP_0 p9 hp) (by decide)) hM_0)) (hE44 q9 hq1) (by decide)) (hU43.n (gne_c (hU3.n (gne_c hM_0 (hP_0 p9 hp) (by decide)) hM_0) (hE4 x_5 hc1) (by decide)) (hU3.n (gne_c hM_0 (hP_0 p9 hp) (by decide)) hM_0)))
    refine g_aload_n hC dJ9_rotateLeft_40 2 rfl gRef_r 41 rfl ?_
    refine g_get (v := va_rf ((va_up (va_up pa x_5 (some p9)) q9 (pa p9)) p9)) hC cI25 (hE47 p9 hp) 4 (Nat.le_of_ble_eq_true rfl) q1032 rfl dJ9_rotateLeft_41 44 rfl ?_
    refine g_topv (y := va_rf (pa p9)) (congrArg va_rf (show (va_up (va_up pa x_5 (some p9)) q9 (pa p9)) p9 = pa p9 from (by rw [va_up_ne _ _ hne, va_up_ne _ _ (Ne.symm hcp)]))) ?_
    refine g_ifnonnull hC dJ9_rotateLeft_44 55 rfl 47 rfl (fun x_49 e_50 => ?_) (fun e_50 => ?_)
    · obtain ⟨hg1, -⟩ := hI.2.2.2.2.2.2.2.2.1 p9 hp x_49 e_50
      have hgp : x_49 ≠ p9 := hI.nepa hp e_50
      have hgq : x_49 ≠ q9 := hI.nepa2 hq1 hq2 e_50
      refine g_aload_n hC dJ9_rotateLeft_55 2 rfl gRef_r 56 rfl ?_
      refine g_get (v := va_rf ((va_up (va_up pa x_5 (some p9)) q9 (pa p9)) p9)) hC cI25 (hE47 p9 hp) 4 (Nat.le_of_ble_eq_true rfl) q1032 rfl dJ9_rotateLeft_56 59 rfl ?_
      refine g_topv (y := .ref x_49) (congrArg va_rf (show (va_up (va_up pa x_5 (some p9)) q9 (pa p9)) p9 = some x_49 from (by rw [va_up_ne _ _ hne, va_up_ne _ _ (Ne.symm hcp)]; exact e_50))) ?_
      refine g_get (v := va_rf (lf x_49)) hC cI25 (hE47 x_49 hg1) 2 (Nat.le_of_ble_eq_true rfl) q1028 rfl dJ9_rotateLeft_59 62 rfl ?_
      refine g_aload_n hC dJ9_rotateLeft_62 2 rfl gRef_r 63 rfl ?_
      refine g_acmp_ne (rx := lf x_49) (ry := some p9) hC dJ9_rotateLeft_63 77 rfl 66 rfl (fun c_51 => ?_) (fun c_51 => ?_)
      · refine g_aload_n hC dJ9_rotateLeft_77 2 rfl gRef_r 78 rfl ?_
        refine g_get (v := va_rf ((va_up (va_up pa x_5 (some p9)) q9 (pa p9)) p9)) hC cI25 (hE47 p9 hp) 4 (Nat.le_of_ble_eq_true rfl) q1032 rfl dJ9_rotateLeft_78 81 rfl ?_
        refine g_topv (y := .ref x_49) (congrArg va_rf (show (va_up (va_up pa x_5 (some p9)) q9 (pa p9)) p9 = some x_49 from (by rw [va_up_ne _ _ hne, va_up_ne _ _ (Ne.symm hcp)]; exact e_50))) ?_
        refine g_aload_n hC dJ9_rotateLeft_81 0 rfl gRef_r 82 rfl ?_
        refine g_put hC cI25 (hE47 x_49 hg1) 3 (Nat.le_of_ble_eq_true rfl) q1030 rfl rfl rfl (Nat.le_of_ble_eq_true rfl) dJ9_rotateLeft_82 (fs' := [.ref (kb x_49), .ref (vl x_49), va_rf (lf x_49), .ref q9, va_rf ((va_up (va_up pa x_5 (some p9)) q9 (pa p9)) x_49), .int (bI (co x_49))]) rfl 85 rfl (fun M52 hU53 => ?_)
        have hE54 : tmE M52 t1 Ns kb vl lf (va_up (va_up rt p9 (lf q9)) x_49 (some q9)) (va_up (va_up pa x_5 (some p9)) q9 (pa p9)) co := tmE.s3 hE47 (v := some q9) hU53
        refine g_aload_n hC dJ9_rotateLeft_85 0 rfl gRef_r 86 rfl ?_
        refine g_aload_n hC dJ9_rotateLeft_86 2 rfl gRef_r 87 rfl ?_
        refine g_put hC cI25 (hE54 q9 hq1) 2 (Nat.le_of_ble_eq_true rfl) q1028 rfl rfl rfl (Nat.le_of_ble_eq_true rfl) dJ9_rotateLeft_87 (fs' := [.ref (kb q9), .ref (vl q9), .ref p9, va_rf ((va_up (va_up rt p9 (lf q9)) x_49 (some q9)) q9), va_rf ((va_up (va_up pa x_5 (some p9)) q9 (pa p9)) q9), .int (bI (co q9))]) rfl 90 rfl (fun M55 hU56 => ?_)
        have hE57 : tmE M55 t1 Ns kb vl (va_up lf q9 (some p9)) (va_up (va_up rt p9 (lf q9)) x_49 (some q9)) (va_up (va_up pa x_5 (some p9)) q9 (pa p9)) co := tmE.s2 hE54 (v := some p9) hU56
        refine g_aload_n hC dJ9_rotateLeft_90 2 rfl gRef_r 91 rfl ?_
        refine g_aload_n hC dJ9_rotateLeft_91 0 rfl gRef_r 92 rfl ?_
        refine g_put hC cI25 (hE57 p9 hp) 4 (Nat.le_of_ble_eq_true rfl) q1032 rfl rfl rfl (Nat.le_of_ble_eq_true rfl) dJ9_rotateLeft_92 (fs' := [.ref (kb p9), .ref (vl p9), va_rf ((va_up lf q9 (some p9)) p9), va_rf ((va_up (va_up rt p9 (lf q9)) x_49 (some q9)) p9), .ref q9, .int (bI (co p9))]) rfl 95 rfl (fun M58 hU59 => ?_)
        have hE60 : tmE M58 t1 Ns kb vl (va_up lf q9 (some p9)) (va_up (va_up rt p9 (lf q9)) x_49 (some q9)) (va_up (va_up (va_up pa x_5 (some p9)) q9 (pa p9)) p9 (some q9)) co := tmE.s4 hE57 (v := some q9) hU59
        exact g_vret hC (fun k9 hk9 => ⟨(by rw [(hU59.n (gne_c (hU56.n (gne_c (hU53.n (gne_c hH48 (hE47 x_49 hg1) (by decide)) hH48) (hE54 q9 hq1) (by decide)) (hU53.n (gne_c hH48 (hE47 x_49 hg1) (by decide)) hH48)) (hE57 p9 hp) (by decide)) (hU56.n (gne_c (hU53.n (gne_c hH48 (hE47 x_49 hg1) (by decide)) hH48) (hE54 q9 hq1) (by decide)) (hU53.n (gne_c hH48 (hE47 x_49 hg1) (by decide)) hH48)))]; simp only [rlT, e_50]; all_goals rfl), (by have hz := hE60; simp only [rlL, rlR, rlP, e_6, e_50, if_neg (fun z => c_51 z)] at hz ⊢; exact hz), ((((((gFr.refl.up hU3 (hP_0 p9 hp) (show (fun t => tgE t0.1 t0.2 t ∨ tgE t1.1 t1.2 t) t1 by (try simp only [ndT, tgE, gT, tgR, ndT9, tg0, Prod.mk.injEq]); first | done | omega | (simp; done))).up hU43 (hE4 x_5 hc1) (show (fun t => tgE t0.1 t0.2 t ∨ tgE t1.1 t1.2 t) t1 by (try simp only [ndT, tgE, gT, tgR, ndT9, tg0, Prod.mk.injEq]); first | done | omega | (simp; done))).up hU46 (hE44 q9 hq1) (show (fun t => tgE t0.1 t0.2 t ∨ tgE t1.1 t1.2 t) t1 by (try simp only [ndT, tgE, gT, tgR, ndT9, tg0, Prod.mk.injEq]); first | done | omega | (simp; done))).up hU53 (hE47 x_49 hg1) (show (fun t => tgE t0.1 t0.2 t ∨ tgE t1.1 t1.2 t) t1 by (try simp only [ndT, tgE, gT, tgR, ndT9, tg0, Prod.mk.injEq]); first | done | omega | (simp; done))).up hU56 (hE54 q9 hq1) (show (fun t => tgE t0.1 t0.2 t ∨ tgE t1.1 t1.2 t) t1 by (try simp only [ndT, tgE, gT, tgR, ndT9, tg0, Prod.mk.injEq]); first | done | omega | (simp; done))).up hU59 (hE57 p9 hp) (show (fun t => tgE t0.1 t0.2 t ∨ tgE t1.1 t1.2 t) t1 by (try simp only [ndT, tgE, gT, tgR, ndT9, tg0, Prod.mk.injEq]); first | done | omega | (simp; done))), (by first | exact Nat.le_zero.mp hk9 | omega)⟩) dJ9_rotateLeft_95 (Nat.le_of_ble_eq_true rfl) (Nat.le_of_ble_eq_true rfl)
      · refine g_aload_n hC dJ9_rotateLeft_66 2 rfl gRef_r 67 rfl ?_
        refine g_get (v := va_rf ((va_up (va_up pa x_5 (some p9)) q9 (pa p9)) p9)) hC cI25 (hE47 p9 hp) 4 (Nat.le_of_ble_eq_true rfl) q1032 rfl dJ9_rotateLeft_67 70 rfl ?_
        refine g_topv (y := .ref x_49) (congrArg va_rf (show (va_up (va_up pa x_5 (some p9)) q9 (pa p9)) p9 = some x_49 from (by rw [va_up_ne _ _ hne, va_up_ne _ _ (Ne.symm hcp)]; exact e_50))) ?_
        refine g_aload_n hC dJ9_rotateLeft_70 0 rfl gRef_r 71 rfl ?_
        refine g_put hC cI25 (hE47 x_49 hg1) 2 (Nat.le_of_ble_eq_true rfl) q1028 rfl rfl rfl (Nat.le_of_ble_eq_true rfl) dJ9_rotateLeft_71 (fs' := [.ref (kb x_49), .ref (vl x_49), .ref q9, va_rf ((va_up rt p9 (lf q9)) x_49), va_rf ((va_up (va_up pa x_5 (some p9)) q9 (pa p9)) x_49), .int (bI (co x_49))]) rfl 74 rfl (fun M61 hU62 => ?_)
        have hE63 : tmE M61 t1 Ns kb vl (va_up lf x_49 (some q9)) (va_up rt p9 (lf q9)) (va_up (va_up pa x_5 (some p9)) q9 (pa p9)) co := tmE.s2 hE47 (v := some q9) hU62
        refine g_goto hC dJ9_rotateLeft_74 85 rfl ?_
        refine g_aload_n hC dJ9_rotateLeft_85 0 rfl gRef_r 86 rfl ?_
        refine g_aload_n hC dJ9_rotateLeft_86 2 rfl gRef_r 87 rfl ?_
        refine g_put hC cI25 (hE63 q9 hq1) 2 (Nat.le_of_ble_eq_true rfl) q1028 rfl rfl rfl (Nat.le_of_ble_eq_true rfl) dJ9_rotateLeft_87 (fs' := [.ref (kb q9), .ref (vl q9), .ref p9, va_rf ((va_up rt p9 (lf q9)) q9), va_rf ((va_up (va_up pa x_5 (some p9)) q9 (pa p9)) q9), .int (bI (co q9))]) rfl 90 rfl (fun M64 hU65 => ?_)
        have hE66 : tmE M64 t1 Ns kb vl (va_up (va_up lf x_49 (some q9)) q9 (some p9)) (va_up rt p9 (lf q9)) (va_up (va_up pa x_5 (some p9)) q9 (pa p9)) co := tmE.s2 hE63 (v := some p9) hU65
        refine g_aload_n hC dJ9_rotateLeft_90 2 rfl gRef_r 91 rfl ?_
        refine g_aload_n hC dJ9_rotateLeft_91 0 rfl gRef_r 92 rfl ?_
        refine g_put hC cI25 (hE66 p9 hp) 4 (Nat.le_of_ble_eq_true rfl) q1032 rfl rfl rfl (Nat.le_of_ble_eq_true rfl) dJ9_rotateLeft_92 (fs' := [.ref (kb p9), .ref (vl p9), va_rf ((va_up (va_up lf x_49 (some q9)) q9 (some p9)) p9), va_rf ((va_up rt p9 (lf q9)) p9), .ref q9, .int (bI (co p9))]) rfl 95 rfl (fun M67 hU68 => ?_)
        have hE69 : tmE M67 t1 Ns kb vl (va_up (va_up lf x_49 (some q9)) q9 (some p9)) (va_up rt p9 (lf q9)) (va_up (va_up (va_up pa x_5 (some p9)) q9 (pa p9)) p9 (some q9)) co := tmE.s4 hE66 (v := some q9) hU68
        exact g_vret hC (fun k9 hk9 => ⟨(by rw [(hU68.n (gne_c (hU65.n (gne_c (hU62.n (gne_c hH48 (hE47 x_49 hg1) (by decide)) hH48) (hE63 q9 hq1) (by decide)) (hU62.n (gne_c hH48 (hE47 x_49 hg1) (by decide)) hH48)) (hE66 p9 hp) (by decide)) (hU65.n (gne_c (hU62.n (gne_c hH48 (hE47 x_49 hg1) (by decide)) hH48) (hE63 q9 hq1) (by decide)) (hU62.n (gne_c hH48 (hE47 x_49 hg1) (by decide)) hH48)))]; simp only [rlT, e_50]; all_goals rfl), (by have hz := hE69; simp only [rlL, rlR, rlP, e_6, e_50, if_pos c_51] at hz ⊢; exact hz), ((((((gFr.refl.up hU3 (hP_0 p9 hp) (show (fun t => tgE t0.1 t0.2 t ∨ tgE t1.1 t1.2 t) t1 by (try simp only [ndT, tgE, gT, tgR, ndT9, tg0, Prod.mk.injEq]); first | done | omega | (simp; done))).up hU43 (hE4 x_5 hc1) (show (fun t => tgE t0.1 t0.2 t ∨ tgE t1.1 t1.2 t) t1 by (try simp only [ndT, tgE, gT, tgR, ndT9, tg0, Prod.mk.injEq]); first | done | omega | (simp; done))).up hU46 (hE44 q9 hq1) (show (fun t => tgE t0.1 t0.2 t ∨ tgE t1.1 t1.2 t) t1 by (try simp only [ndT, tgE, gT, tgR, ndT9, tg0, Prod.mk.injEq]); first | done | omega | (simp; done))).up hU62 (hE47 x_49 hg1) (show (fun t => tgE t0.1 t0.2 t ∨ tgE t1.1 t1.2 t) t1 by (try simp only [ndT, tgE, gT, tgR, ndT9, tg0, Prod.mk.injEq]); first | done | omega | (simp; done))).up hU65 (hE63 q9 hq1) (show (fun t => tgE t0.1 t0.2 t ∨ tgE t1.1 t1.2 t) t1 by (try simp only [ndT, tgE, gT, tgR, ndT9, tg0, Prod.mk.injEq]); first | done | omega | (simp; done))).up hU68 (hE66 p9 hp) (show (fun t => tgE t0.1 t0.2 t ∨ tgE t1.1 t1.2 t) t1 by (try simp only [ndT, tgE, gT, tgR, ndT9, tg0, Prod.mk.injEq]); first | done | omega | (simp; done))), (by first | exact Nat.le_zero.mp hk9 | omega)⟩) dJ9_rotateLeft_95 (Nat.le_of_ble_eq_true rfl) (Nat.le_of_ble_eq_true rfl)
    · refine g_aload_n hC dJ9_rotateLeft_47 1 rfl gRef_r 48 rfl ?_
      refine g_aload_n hC dJ9_rotateLeft_48 0 rfl gRef_r 49 rfl ?_
      refine g_put hC cI24 hH48 3 (Nat.le_of_ble_eq_true rfl) q343 rfl rfl rfl (Nat.le_of_ble_eq_true rfl) dJ9_rotateLeft_49 (fs' := [.null, .null, .ref cm, .ref q9, .int (nI n), .int mc, .null, va_rf ks, .null]) rfl 52 rfl (fun M70 hU71 => ?_)
      refine g_goto hC dJ9_rotateLeft_52 85 rfl ?_
      refine g_aload_n hC dJ9_rotateLeft_85 0 rfl gRef_r 86 rfl ?_
      refine g_aload_n hC dJ9_rotateLeft_86 2 rfl gRef_r 87 rfl ?_
      refine g_put hC cI25 ((tmE.fr hE47 (gFr.refl.up hU71 hH48 (show (fun t => ¬ (tgE t1.1 t1.2) t) t0 by (try simp only [ndT, tgE, gT, tgR, ndT9, tg0, Prod.mk.injEq]); first | done | omega | (simp; done)))) q9 hq1) 2 (Nat.le_of_ble_eq_true rfl) q1028 rfl rfl rfl (Nat.le_of_ble_eq_true rfl) dJ9_rotateLeft_87 (fs' := [.ref (kb q9), .ref (vl q9), .ref p9, va_rf ((va_up rt p9 (lf q9)) q9), va_rf ((va_up (va_up pa x_5 (some p9)) q9 (pa p9)) q9), .int (bI (co q9))]) rfl 90 rfl (fun M72 hU73 => ?_)
      have hE74 : tmE M72 t1 Ns kb vl (va_up lf q9 (some p9)) (va_up rt p9 (lf q9)) (va_up (va_up pa x_5 (some p9)) q9 (pa p9)) co := tmE.s2 (tmE.fr hE47 (gFr.refl.up hU71 hH48 (show (fun t => ¬ (tgE t1.1 t1.2) t) t0 by (try simp only [ndT, tgE, gT, tgR, ndT9, tg0, Prod.mk.injEq]); first | done | omega | (simp; done)))) (v := some p9) hU73
      refine g_aload_n hC dJ9_rotateLeft_90 2 rfl gRef_r 91 rfl ?_
      refine g_aload_n hC dJ9_rotateLeft_91 0 rfl gRef_r 92 rfl ?_
      refine g_put hC cI25 (hE74 p9 hp) 4 (Nat.le_of_ble_eq_true rfl) q1032 rfl rfl rfl (Nat.le_of_ble_eq_true rfl) dJ9_rotateLeft_92 (fs' := [.ref (kb p9), .ref (vl p9), va_rf ((va_up lf q9 (some p9)) p9), va_rf ((va_up rt p9 (lf q9)) p9), .ref q9, .int (bI (co p9))]) rfl 95 rfl (fun M75 hU76 => ?_)
      have hE77 : tmE M75 t1 Ns kb vl (va_up lf q9 (some p9)) (va_up rt p9 (lf q9)) (va_up (va_up (va_up pa x_5 (some p9)) q9 (pa p9)) p9 (some q9)) co := tmE.s4 hE74 (v := some q9) hU76
      exact g_vret hC (fun k9 hk9 => ⟨(by rw [(hU76.n (gne_c (hU73.n (gne_c hU71.1 ((tmE.fr hE47 (gFr.refl.up hU71 hH48 (show (fun t => ¬ (tgE t1.1 t1.2) t) t0 by (try simp only [ndT, tgE, gT, tgR, ndT9, tg0, Prod.mk.injEq]); first | done | omega | (simp; done)))) q9 hq1) (by decide)) hU71.1) (hE74 p9 hp) (by decide)) (hU73.n (gne_c hU71.1 ((tmE.fr hE47 (gFr.refl.up hU71 hH48 (show (fun t => ¬ (tgE t1.1 t1.2) t) t0 by (try simp only [ndT, tgE, gT, tgR, ndT9, tg0, Prod.mk.injEq]); first | done | omega | (simp; done)))) q9 hq1) (by decide)) hU71.1))]; simp only [rlT, e_50]; all_goals rfl), (by have hz := hE77; simp only [rlL, rlR, rlP, e_6, e_50] at hz ⊢; exact hz), ((((((gFr.refl.up hU3 (hP_0 p9 hp) (show (fun t => tgE t0.1 t0.2 t ∨ tgE t1.1 t1.2 t) t1 by (try simp only [ndT, tgE, gT, tgR, ndT9, tg0, Prod.mk.injEq]); first | done | omega | (simp; done))).up hU43 (hE4 x_5 hc1) (show (fun t => tgE t0.1 t0.2 t ∨ tgE t1.1 t1.2 t) t1 by (try simp only [ndT, tgE, gT, tgR, ndT9, tg0, Prod.mk.injEq]); first | done | omega | (simp; done))).up hU46 (hE44 q9 hq1) (show (fun t => tgE t0.1 t0.2 t ∨ tgE t1.1 t1.2 t) t1 by (try simp only [ndT, tgE, gT, tgR, ndT9, tg0, Prod.mk.injEq]); first | done | omega | (simp; done))).up hU71 hH48 (show (fun t => tgE t0.1 t0.2 t ∨ tgE t1.1 t1.2 t) t0 by (try simp only [ndT, tgE, gT, tgR, ndT9, tg0, Prod.mk.injEq]); first | done | omega | (simp; done))).up hU73 ((tmE.fr hE47 (gFr.refl.up hU71 hH48 (show (fun t => ¬ (tgE t1.1 t1.2) t) t0 by (try simp only [ndT, tgE, gT, tgR, ndT9, tg0, Prod.mk.injEq]); first | done | omega | (simp; done)))) q9 hq1) (show (fun t => tgE t0.1 t0.2 t ∨ tgE t1.1 t1.2 t) t1 by (try simp only [ndT, tgE, gT, tgR, ndT9, tg0, Prod.mk.injEq]); first | done | omega | (simp; done))).up hU76 (hE74 p9 hp) (show (fun t => tgE t0.1 t0.2 t ∨ tgE t1.1 t1.2 t) t1 by (try simp only [ndT, tgE, gT, tgR, ndT9, tg0, Prod.mk.injEq]); first | done | omega | (simp; done))), (by first | exact Nat.le_zero.mp hk9 | omega)⟩) dJ9_rotateLeft_95 (Nat.le_of_ble_eq_true rfl) (Nat.le_of_ble_eq_true rfl)
set_option maxHeartbeats 4000000 in
theorem met_TM_rotR (l : Launch) (G : gG) (M : gM) (mp : Nat) (t0 : Nat × Nat) (cm : Nat) (r : Option Nat) (n : Nat) (mc : Int32) (ks : Option Nat) (t1 : Nat × Nat) (Ns : List Nat) (kb : Nat → Nat) (vl : Nat → Nat) (lf : Nat → Option Nat) (rt : Nat → Option Nat) (pa : Nat → Option Nat) (co : Nat → Bool) (rho : Nat → Int) (lo : Nat → Option Nat) (hi : Nat → Option Nat) (p9 : Nat) (q9 : Nat) (hI : tmI r Ns rho lf rt pa lo hi) (hp : p9 ∈ Ns) (hq : lf p9 = some q9) (ht : ¬ (t0.1 = t1.1 ∧ t0.2 = t1.2)) (hM_0 : M mp = some (t0, .inr (24, [.null, .null, .ref cm, va_rf r, .int (nI n), .int mc, .null, va_rf ks, .null]))) (hP_0 : tmE M t1 Ns kb vl lf rt pa co) : Met l yJ9_rotateRight (ws_ yJ9_rotateRight cJ9_rotateRight 3 none) ({ frames := 0, cells := 0, slots := 0, locals := 0 }) (gPc G [.ref mp, .ref p9] M) (gQv G (fun M9 k9 => M9 mp = some (t0, .inr (24, [.null, .null, .ref cm, va_rf (rlT r pa p9 q9), .int (nI n), .int mc, .null, va_rf ks, .null])) ∧ tmE M9 t1 Ns kb vl (rlR rt lf pa p9 q9) (rlL rt pa p9 q9) (rlP rt pa p9 q9) co ∧ gFr (gT (fun t => tgE t0.1 t0.2 t ∨ tgE t1.1 t1.2 t)) M M9 ∧ k9 = 0)) 0 0 (gA G) := by
  refine gMet [(0, .ref mp), (1, .ref p9)] (by decide) (Nat.le_of_ble_eq_true rfl) rfl ?_
  intro p e s m below meth c hC
  obtain ⟨hq1, hq2, -, -⟩ := hI.2.2.2.2.1 p9 hp q9 hq
  have hne : p9 ≠ q9 := hI.nepa hq1 hq2
  refine g_aload_n hC dJ9_rotateRight_0 1 rfl gRef_r 1 rfl ?_
  refine g_ifnull (r := some p9) hC dJ9_rotateRight_1 95 rfl 4 rfl (fun q => by cases q) (fun _ _ => ?_)
  refine g_aload_n hC dJ9_rotateRight_4 1 rfl gRef_r 5 rfl ?_
  refine g_get (v := va_rf (lf p9)) hC cI25 (hP_0 p9 hp) 2 (Nat.le_of_ble_eq_true rfl) q1028 rfl dJ9_rotateRight_5 8 rfl ?_
  refine g_topv (y := .ref q9) (congrArg va_rf (show lf p9 = some q9 from hq)) ?_
  refine g_astore_n hC dJ9_rotateRight_8 rfl gRef_r (Nat.le_of_ble_eq_true rfl) [(2, .ref q9), (0, .ref mp), (1, .ref p9)] rfl 9 rfl ?_
  refine g_aload_n hC dJ9_rotateRight_9 2 rfl gRef_r 10 rfl ?_
  refine g_aload_n hC dJ9_rotateRight_10 0 rfl gRef_r 11 rfl ?_
  refine g_get (v := va_rf (rt q9)) hC cI25 (hP_0 q9 hq1) 3 (Nat.le_of_ble_eq_true rfl) q1030 rfl dJ9_rotateRight_11 14 rfl ?_
  refine g_put hC cI25 (hP_0 p9 hp) 2 (Nat.le_of_ble_eq_true rfl) q1028 rfl gq_n gq_f (Nat.le_of_ble_eq_true rfl) dJ9_rotateRight_14 (fs' := [.ref (kb p9), .ref (vl p9), va_rf (rt q9), va_rf (rt p9), va_rf (pa p9), .int (bI (co p9))]) rfl 17 rfl (fun M2 hU3 => ?_)
  have hE4 : tmE M2 t1 Ns kb vl (va_up lf p9 (rt q9)) rt pa co := tmE.s2 hP_0 (v := rt q9) hU3
  refine g_aload_n hC dJ9_rotateRight_17 0 rfl gRef_r 18 rfl ?_
  refine g_get (v := va_rf (rt q9)) hC cI25 (hE4 q9 hq1) 3 (Nat.le_of_ble_eq_true rfl) q1030 rfl dJ9_rotateRight_18 21 rfl ?_
  refine g_ifnull hC dJ9_rotateRight_21 32 rfl 24 rfl (fun e_6 => ?_) (fun x_5 e_6 => ?_)
  · refine g_aload_n hC dJ9_rotateRight_32 0 rfl gRef_r 33 rfl ?_
    refine g_aload_n hC dJ9_rotateRight_33 2 rfl gRef_r 34 rfl ?_
    refine g_get (v := va_rf (pa p9)) hC cI25 (hE4 p9 hp) 4 (Nat.le_of_ble_eq_true rfl) q1032 rfl dJ9_rotateRight_34 37 rfl ?_
    refine g_put hC cI25 (hE4 q9 hq1) 4 (Nat.le_of_ble_eq_true rfl) q1032 rfl gq_n gq_f (Nat.le_of_ble_eq_true rfl) dJ9_rotateRight_37 (fs' := [.ref (kb q9), .ref (vl q9), va_rf ((va_up lf p9 (rt q9)) q9), va_rf (rt q9), va_rf (pa p9), .int (bI (co q9))]) rfl 40 rfl (fun M7 hU8 => ?_)
    have hE9 : tmE M7 t1 Ns kb vl (va_up lf p9 (rt q9)) rt (va_up pa q9 (pa p9)) co := tmE.s4 hE4 (v := pa p9) hU8
    refine g_aload_n hC dJ9_rotateRight_40 2 rfl gRef_r 41 rfl ?_
    refine g_get (v := va_rf ((va_up pa q9 (pa p9)) p9)) hC cI25 (hE9 p9 hp) 4 (Nat.le_of_ble_eq_true rfl) q1032 rfl dJ9_rotateRight_41 44 rfl ?_
    refine g_topv (y := va_rf (pa p9)) (congrArg va_rf (show (va_up pa q9 (pa p9)) p9 = pa p9 from (by rw [va_up_ne _ _ hne]))) ?_
    refine g_ifnonnull hC dJ9_rotateRight_44 55 rfl 47 rfl (fun x_10 e_11 => ?_) (fun e_11 => ?_)
    · obtain ⟨hg1, -⟩ := hI.2.2.2.2.2.2.2.2.1 p9 hp x_10 e_11
      have hgp : x_10 ≠ p9 := hI.nepa hp e_11
      have hgq : x_10 ≠ q9 := hI.nepa2 hq1 hq2 e_11
      refine g_aload_n hC dJ9_rotateRight_55 2 rfl gRef_r 56 rfl ?_
      refine g_get (v := va_rf ((va_up pa q9 (pa p9)) p9)) hC cI25 (hE9 p9 hp) 4 (Nat.le_of_ble_eq_true rfl) q1032 rfl dJ9_rotateRight_56 59 rfl ?_
      refine g_topv (y := .ref x_10) (congrArg va_rf (show (va_up pa q9 (pa p9)) p9 = some x_10 from (by rw [va_up_ne _ _ hne]; exact e_11))) ?_
      refine g_get (v := va_rf (rt x_10)) hC cI25 (hE9 x_10 hg1) 3 (Nat.le_of_ble_eq_true rfl) q1030 rfl dJ9_rotateRight_59 62 rfl ?_
      refine g_aload_n hC dJ9_rotateRight_62 2 rfl gRef_r 63 rfl ?_
      refine g_acmp_ne (rx := rt x_10) (ry := some p9) hC dJ9_rotateRight_63 77 rfl 66 rfl (fun c_12 => ?_) (fun c_12 => ?_)
      · refine g_aload_n hC dJ9_rotateRight_77 2 rfl gRef_r 78 rfl ?_
        refine g_get (v := va_rf ((va_up pa q9 (pa p9)) p9)) hC cI25 (hE9 p9 hp) 4 (Nat.le_of_ble_eq_true rfl) q1032 rfl dJ9_rotateRight_78 81 rfl ?_
        refine g_topv (y := .ref x_10) (congrArg va_rf (show (va_up pa q9 (pa p9)) p9 = some x_10 from (by rw [va_up_ne _ _ hne]; exact e_11))) ?_
        refine g_aload_n hC dJ9_rotateRight_81 0 rfl gRef_r 82 rfl ?_
        refine g_put hC cI25 (hE9 x_10 hg1) 2 (Nat.le_of_ble_eq_true rfl) q1028 rfl rfl rfl (Nat.le_of_ble_eq_true rfl) dJ9_rotateRight_82 (fs' := [.ref (kb x_10), .ref (vl x_10), .ref q9, va_rf (rt x_10), va_rf ((va_up pa q9 (pa p9)) x_10), .int (bI (co x_10))]) rfl 85 rfl (fun M13 hU14 => ?_)
        have hE15 : tmE M13 t1 Ns kb vl (va_up (va_up lf p9 (rt q9)) x_10 (some q9)) rt (va_up pa q9 (pa p9)) co := tmE.s2 hE9 (v := some q9) hU14
        have hH16 := (hU14.n (gne_c (hU8.n (gne_c (hU3.n (gne_c hM_0 (hP_0 p9 hp) (by decide)) hM_0) (hE4 q9 hq1) (by decide)) (hU3.n (gne_c hM_0 (hP_0 p9 hp) (by decide)) hM_0)) (hE9 x_10 hg1) (by decide)) (hU8.n (gne_c (hU3.n (gne_c hM_0 (hP_0 p9 hp) (by decide)) hM_0) (hE4 q9 hq1) (by decide)) (hU3.n (gne_c hM_0 (hP_0 p9 hp) (by decide)) hM_0)))
        refine g_aload_n hC dJ9_rotateRight_85 0 rfl gRef_r 86 rfl ?_
        refine g_aload_n hC dJ9_rotateRight_86 2 rfl gRef_r 87 rfl ?_
        refine g_put hC cI25 (hE15 q9 hq1) 3 (Nat.le_of_ble_eq_true rfl) q1030 rfl rfl rfl (Nat.le_of_ble_eq_true rfl) dJ9_rotateRight_87 (fs' := [.ref (kb q9), .ref (vl q9), va_rf ((va_up (va_up lf p9 (rt q9)) x_10 (some q9)) q9), .ref p9, va_rf ((va_up pa q9 (pa p9)) q9), .int (bI (co q9))]) rfl 90 rfl (fun M17 hU18 => ?_)
        have hE19 : tmE M17 t1 Ns kb vl (va_up (va_up lf p9 (rt q9)) x_10 (some q9)) (va_up rt q9 (some p9)) (va_up pa q9 (pa p9)) co := tmE.s3 hE15 (v := some p9) hU18
        refine g_aload_n hC dJ9_rotateRight_90 2 rfl gRef_r 91 rfl ?_
        refine g_aload_n hC dJ9_rotateRight_91 0 rfl gRef_r 92 rfl ?_
        refine g_put hC cI25 (hE19 p9 hp) 4 (Nat.le_of_ble_eq_true rfl) q1032 rfl rfl rfl (Nat.le_of_ble_eq_true rfl) dJ9_rotateRight_92 (fs' := [.ref (kb p9), .ref (vl p9), va_rf ((va_up (va_up lf p9 (rt q9)) x_10 (some q9)) p9), va_rf ((va_up rt q9 (some p9)) p9), .ref q9, .int (bI (co p9))]) rfl 95 rfl (fun M20 hU21 => ?_)
        have hE22 : tmE M20 t1 Ns kb vl (va_up (va_up lf p9 (rt q9)) x_10 (some q9)) (va_up rt q9 (some p9)) (va_up (va_up pa q9 (pa p9)) p9 (some q9)) co := tmE.s4 hE19 (v := some q9) hU21
        exact g_vret hC (fun k9 hk9 => ⟨(by rw [(hU21.n (gne_c (hU18.n (gne_c hH16 (hE15 q9 hq1) (by decide)) hH16) (hE19 p9 hp) (by decide)) (hU18.n (gne_c hH16 (hE15 q9 hq1) (by decide)) hH16))]; simp only [rlT, e_11]; all_goals rfl), (by have hz := hE22; simp only [rlL, rlR, rlP, e_6, e_11, if_neg (fun z => c_12 z)] at hz ⊢; exact hz), (((((gFr.refl.up hU3 (hP_0 p9 hp) (show (fun t => tgE t0.1 t0.2 t ∨ tgE t1.1 t1.2 t) t1 by (try simp only [ndT, tgE, gT, tgR, ndT9, tg0, Prod.mk.injEq]); first | done | omega | (simp; done))).up hU8 (hE4 q9 hq1) (show (fun t => tgE t0.1 t0.2 t ∨ tgE t1.1 t1.2 t) t1 by (try simp only [ndT, tgE, gT, tgR, ndT9, tg0, Prod.mk.injEq]); first | done | omega | (simp; done))).up hU14 (hE9 x_10 hg1) (show (fun t => tgE t0.1 t0.2 t ∨ tgE t1.1 t1.2 t) t1 by (try simp only [ndT, tgE, gT, tgR, ndT9, tg0, Prod.mk.injEq]); first | done | omega | (simp; done))).up hU18 (hE15 q9 hq1) (show (fun t => tgE t0.1 t0.2 t ∨ tgE t1.1 t1.2 t) t1 by (try simp only [ndT, tgE, gT, tgR, ndT9, tg0, Prod.mk.injEq]); first | done | omega | (simp; done))).up hU21 (hE19 p9 hp) (show (fun t => tgE t0.1 t0.2 t ∨ tgE t1.1 t1.2 t) t1 by (try simp only [ndT, tgE, gT, tgR, ndT9, tg0, Prod.mk.injEq]); first | done | omega | (simp; done))), (by first | exact Nat.le_zero.mp hk9 | omega)⟩) dJ9_rotateRight_95 (Nat.le_of_ble_eq_true rfl) (Nat.le_of_ble_eq_true rfl)
      · refine g_aload_n hC dJ9_rotateRight_66 2 rfl gRef_r 67 rfl ?_
        refine g_get (v := va_rf ((va_up pa q9 (pa p9)) p9)) hC cI25 (hE9 p9 hp) 4 (Nat.le_of_ble_eq_true rfl) q1032 rfl dJ9_rotateRight_67 70 rfl ?_
        refine g_topv (y := .ref x_10) (congrArg va_rf (show (va_up pa q9 (pa p9)) p9 = some x_10 from (by rw [va_up_ne _ _ hne]; exact e_11))) ?_
        refine g_aload_n hC dJ9_rotateRight_70 0 rfl gRef_r 71 rfl ?_
        refine g_put hC cI25 (hE9 x_10 hg1) 3 (Nat.le_of_ble_eq_true rfl) q1030 rfl rfl rfl (Nat.le_of_ble_eq_true rfl) dJ9_rotateRight_71 (fs' := [.ref (kb x_10), .ref (vl x_10), va_rf ((va_up lf p9 (rt q9)) x_10), .ref q9, va_rf ((va_up pa q9 (pa p9)) x_10), .int (bI (co x_10))]) rfl 74 rfl (fun M23 hU24 => ?_)
        have hE25 : tmE M23 t1 Ns kb vl (va_up lf p9 (rt q9)) (va_up rt x_10 (some q9)) (va_up pa q9 (pa p9)) co := tmE.s3 hE9 (v := some q9) hU24
        have hH26 := (hU24.n (gne_c (hU8.n (gne_c (hU3.n (gne_c hM_0 (hP_0 p9 hp) (by decide)) hM_0) (hE4 q9 hq1) (by decide)) (hU3.n (gne_c hM_0 (hP_0 p9 hp) (by decide)) hM_0)) (hE9 x_10 hg1) (by decide)) (hU8.n (gne_c (hU3.n (gne_c hM_0 (hP_0 p9 hp) (by decide)) hM_0) (hE4 q9 hq1) (by decide)) (hU3.n (gne_c hM_0 (hP_0 p9 hp) (by decide)) hM_0)))
        refine g_goto hC dJ9_rotateRight_74 85 rfl ?_
        refine g_aload_n hC dJ9_rotateRight_85 0 rfl gRef_r 86 rfl ?_
        refine g_aload_n hC dJ9_rotateRight_86 2 rfl gRef_r 87 rfl ?_
        refine g_put hC cI25 (hE25 q9 hq1) 3 (Nat.le_of_ble_eq_true rfl) q1030 rfl rfl rfl (Nat.le_of_ble_eq_true rfl) dJ9_rotateRight_87 (fs' := [.ref (kb q9), .ref (vl q9), va_rf ((va_up lf p9 (rt q9)) q9), .ref p9, va_rf ((va_up pa q9 (pa p9)) q9), .int (bI (co q9))]) rfl 90 rfl (fun M27 hU28 => ?_)
        have hE29 : tmE M27 t1 Ns kb vl (va_up lf p9 (rt q9)) (va_up (va_up rt x_10 (some q9)) q9 (some p9)) (va_up pa q9 (pa p9)) co := tmE.s3 hE25 (v := some p9) hU28
        refine g_aload_n hC dJ9_rotateRight_90 2 rfl gRef_r 91 rfl ?_
        refine g_aload_n hC dJ9_rotateRight_91 0 rfl gRef_r 92 rfl ?_
        refine g_put hC cI25 (hE29 p9 hp) 4 (Nat.le_of_ble_eq_true rfl) q1032 rfl rfl rfl (Nat.le_of_ble_eq_true rfl) dJ9_rotateRight_92 (fs' := [.ref (kb p9), .ref (vl p9), va_rf ((va_up lf p9 (rt q9)) p9), va_rf ((va_up (va_up rt x_10 (some q9)) q9 (some p9)) p9), .ref q9, .int (bI (co p9))]) rfl 95 rfl (fun M30 hU31 => ?_)
        have hE32 : tmE M30 t1 Ns kb vl (va_up lf p9 (rt q9)) (va_up (va_up rt x_10 (some q9)) q9 (some p9)) (va_up (va_up pa q9 (pa p9)) p9 (some q9)) co := tmE.s4 hE29 (v := some q9) hU31
        exact g_vret hC (fun k9 hk9 => ⟨(by rw [(hU31.n (gne_c (hU28.n (gne_c hH26 (hE25 q9 hq1) (by decide)) hH26) (hE29 p9 hp) (by decide)) (hU28.n (gne_c hH26 (hE25 q9 hq1) (by decide)) hH26))]; simp only [rlT, e_11]; all_goals rfl), (by have hz := hE32; simp only [rlL, rlR, rlP, e_6, e_11, if_pos c_12] at hz ⊢; exact hz), (((((gFr.refl.up hU3 (hP_0 p9 hp) (show (fun t => tgE t0.1 t0.2 t ∨ tgE t1.1 t1.2 t) t1 by (try simp only [ndT, tgE, gT, tgR, ndT9, tg0, Prod.mk.injEq]); first | done | omega | (simp; done))).up hU8 (hE4 q9 hq1) (show (fun t => tgE t0.1 t0.2 t ∨ tgE t1.1 t1.2 t) t1 by (try simp only [ndT, tgE, gT, tgR, ndT9, tg0, Prod.mk.injEq]); first | done | omega | (simp; done))).up hU24 (hE9 x_10 hg1) (show (fun t => tgE t0.1 t0.2 t ∨ tgE t1.1 t1.2 t) t1 by (try simp only [ndT, tgE, gT, tgR, ndT9, tg0, Prod.mk.injEq]); first | done | omega | (simp; done))).up hU28 (hE25 q9 hq1) (show (fun t => tgE t0.1 t0.2 t ∨ tgE t1.1 t1.2 t) t1 by (try simp only [ndT, tgE, gT, tgR, ndT9, tg0, Prod.mk.injEq]); first | done | omega | (simp; done))).up hU31 (hE29 p9 hp) (show (fun t => tgE t0.1 t0.2 t ∨ tgE t1.1 t1.2 t) t1 by (try simp only [ndT, tgE, gT, tgR, ndT9, tg0, Prod.mk.injEq]); first | done | omega | (simp; done))), (by first | exact Nat.le_zero.mp hk9 | omega)⟩) dJ9_rotateRight_95 (Nat.le_of_ble_eq_true rfl) (Nat.le_of_ble_eq_true rfl)
    · refine g_aload_n hC dJ9_rotateRight_47 1 rfl gRef_r 48 rfl ?_
      refine g_aload_n hC dJ9_rotateRight_48 0 rfl gRef_r 49 rfl ?_
      refine g_put hC cI24 (hU8.n (gne_c (hU3.n (gne_c hM_0 (hP_0 p9 hp) (by decide)) hM_0) (hE4 q9 hq1) (by decide)) (hU3.n (gne_c hM_0 (hP_0 p9 hp) (by decide)) hM_0)) 3 (Nat.le_of_ble_eq_true rfl) q343 rfl rfl rfl (Nat.le_of_ble_eq_true rfl) dJ9_rotateRight_49 (fs' := [.null, .null, .ref cm, .ref q9, .int (nI n), .int mc, .null, va_rf ks, .null]) rfl 52 rfl (fun M33 hU34 => ?_)
      have hH35 : tmE M33 t1 Ns kb vl (va_up lf p9 (rt q9)) rt (va_up pa q9 (pa p9)) co := (tmE.fr hE9 (gFr.refl.up hU34 (hU8.n (gne_c (hU3.n (gne_c hM_0 (hP_0 p9 hp) (by decide)) hM_0) (hE4 q9 hq1) (by decide)) (hU3.n (gne_c hM_0 (hP_0 p9 hp) (by decide)) hM_0)) (show (fun t => ¬ (tgE t1.1 t1.2) t) t0 by (try simp only [ndT, tgE, gT, tgR, ndT9, tg0, Prod.mk.injEq]); first | done | omega | (simp; done))))
      refine g_goto hC dJ9_rotateRight_52 85 rfl ?_
      refine g_aload_n hC dJ9_rotateRight_85 0 rfl gRef_r 86 rfl ?_
      refine g_aload_n hC dJ9_rotateRight_86 2 rfl gRef_r 87 rfl ?_
      refine g_put hC cI25 (hH35 q9 hq1) 3 (Nat.le_of_ble_eq_true rfl) q1030 rfl rfl rfl (Nat.le_of_ble_eq_true rfl) dJ9_rotateRight_87 (fs' := [.ref (kb q9), .ref (vl q9), va_rf ((va_up lf p9 (rt q9)) q9), .ref p9, va_rf ((va_up pa q9 (pa p9)) q9), .int (bI (co q9))]) rfl 90 rfl (fun M36 hU37 => ?_)
      have hE38 : tmE M36 t1 Ns kb vl (va_up lf p9 (rt q9)) (va_up rt q9 (some p9)) (va_up pa q9 (pa p9)) co := tmE.s3 hH35 (v := some p9) hU37
      refine g_aload_n hC dJ9_rotateRight_90 2 rfl gRef_r 91 rfl ?_
      refine g_aload_n hC dJ9_rotateRight_91 0 rfl gRef_r 92 rfl ?_
      refine g_put hC cI25 (hE38 p9 hp) 4 (Nat.le_of_ble_eq_true rfl) q1032 rfl rfl rfl (Nat.le_of_ble_eq_true rfl) dJ9_rotateRight_92 (fs' := [.ref (kb p9), .ref (vl p9), va_rf ((va_up lf p9 (rt q9)) p9), va_rf ((va_up rt q9 (some p9)) p9), .ref q9, .int (bI (co p9))]) rfl 95 rfl (fun M39 hU40 => ?_)
      have hE41 : tmE M39 t1 Ns kb vl (va_up lf p9 (rt q9)) (va_up rt q9 (some p9)) (va_up (va_up pa q9 (pa p9)) p9 (some q9)) co := tmE.s4 hE38 (v := some q9) hU40
      exact g_vret hC (fun k9 hk9 => ⟨(by rw [(hU40.n (gne_c (hU37.n (gne_c hU34.1 (hH35 q9 hq1) (by decide)) hU34.1) (hE38 p9 hp) (by decide)) (hU37.n (gne_c hU34.1 (hH35 q9 hq1) (by decide)) hU34.1))]; simp only [rlT, e_11]; all_goals rfl), (by have hz := hE41; simp only [rlL, rlR, rlP, e_6, e_11] at hz ⊢; exact hz), (((((gFr.refl.up hU3 (hP_0 p9 hp) (show (fun t => tgE t0.1 t0.2 t ∨ tgE t1.1 t1.2 t) t1 by (try simp only [ndT, tgE, gT, tgR, ndT9, tg0, Prod.mk.injEq]); first | done | omega | (simp; done))).up hU8 (hE4 q9 hq1) (show (fun t => tgE t0.1 t0.2 t ∨ tgE t1.1 t1.2 t) t1 by (try simp only [ndT, tgE, gT, tgR, ndT9, tg0, Prod.mk.injEq]); first | done | omega | (simp; done))).up hU34 (hU8.n (gne_c (hU3.n (gne_c hM_0 (hP_0 p9 hp) (by decide)) hM_0) (hE4 q9 hq1) (by decide)) (hU3.n (gne_c hM_0 (hP_0 p9 hp) (by decide)) hM_0)) (show (fun t => tgE t0.1 t0.2 t ∨ tgE t1.1 t1.2 t) t0 by (try simp only [ndT, tgE, gT, tgR, ndT9, tg0, Prod.mk.injEq]); first | done | omega | (simp; done))).up hU37 (hH35 q9 hq1) (show (fun t => tgE t0.1 t0.2 t ∨ tgE t1.1 t1.2 t) t1 by (try simp only [ndT, tgE, gT, tgR, ndT9, tg0, Prod.mk.injEq]); first | done | omega | (simp; done))).up hU40 (hE38 p9 hp) (show (fun t => tgE t0.1 t0.2 t ∨ tgE t1.1 t1.2 t) t1 by (try simp only [ndT, tgE, gT, tgR, ndT9, tg0, Prod.mk.injEq]); first | done | omega | (simp; done))), (by first | exact Nat.le_zero.mp hk9 | omega)⟩) dJ9_rotateRight_95 (Nat.le_of_ble_eq_true rfl) (Nat.le_of_ble_eq_true rfl)
  · obtain ⟨hc1, hc2, -, -⟩ := hI.2.2.2.2.2.1 q9 hq1 x_5 e_6
    have hcq : x_5 ≠ q9 := Ne.symm (hI.nepa hc1 hc2)
    have hcp : x_5 ≠ p9 := Ne.symm (hI.nepa2 hc1 hc2 hq2)
    refine g_aload_n hC dJ9_rotateRight_24 0 rfl gRef_r 25 rfl ?_
    refine g_get (v := va_rf (rt q9)) hC cI25 (hE4 q9 hq1) 3 (Nat.le_of_ble_eq_true rfl) q1030 rfl dJ9_rotateRight_25 28 rfl ?_
    refine g_topv (y := .ref x_5) (congrArg va_rf (show rt q9 = some x_5 from e_6)) ?_
    refine g_aload_n hC dJ9_rotateRight_28 2 rfl gRef_r 29 rfl ?_
    refine g_put hC cI25 (hE4 x_5 hc1) 4 (Nat.le_of_ble_eq_true rfl) q1032 rfl rfl rfl (Nat.le_of_ble_eq_true rfl) dJ9_rotateRight_29 (fs' := [.ref (kb x_5), .ref (vl x_5), va_rf ((va_up lf p9 (rt q9)) x_5), va_rf (rt x_5), .ref p9, .int (bI (co x_5))]) rfl 32 rfl (fun M42 hU43 => ?_)
    have hE44 : tmE M42 t1 Ns kb vl (va_up lf p9 (rt q9)) rt (va_up pa x_5 (some p9)) co := tmE.s4 hE4 (v := some p9) hU43
    refine g_aload_n hC dJ9_rotateRight_32 0 rfl gRef_r 33 rfl ?_
    refine g_aload_n hC dJ9_rotateRight_33 2 rfl gRef_r 34 rfl ?_
    refine g_get (v := va_rf ((va_up pa x_5 (some p9)) p9)) hC cI25 (hE44 p9 hp) 4 (Nat.le_of_ble_eq_true rfl) q1032 rfl dJ9_rotateRight_34 37 rfl ?_
    refine g_topv (y := va_rf (pa p9)) (congrArg va_rf (show (va_up pa x_5 (some p9)) p9 = pa p9 from (by rw [va_up_ne _ _ (Ne.symm hcp)]))) ?_
    refine g_put hC cI25 (hE44 q9 hq1) 4 (Nat.le_of_ble_eq_true rfl) q1032 rfl gq_n gq_f (Nat.le_of_ble_eq_true rfl) dJ9_rotateRight_37 (fs' := [.ref (kb q9), .ref (vl q9), va_rf ((va_up lf p9 (rt q9)) q9), va_rf (rt q9), va_rf (pa p9), .int (bI (co q9))]) rfl 40 rfl (fun M45 hU46 => ?_)
    have hE47 : tmE M45 t1 Ns kb vl (va_up lf p9 (rt q9)) rt (va_up (va_up pa x_5 (some p9)) q9 (pa p9)) co := tmE.s4 hE44 (v := pa p9) hU46
    have hH48 := (hU46.n (gne_c (hU43.n (gne_c (hU3.n (gne_c hM_0 (hP_0 p9 hp) (by decide)) hM_0) (hE4 x_5 hc1) (by decide)) (hU3.n (gne_c hM_0 (hP_0 p9 hp) (by decide)) hM_0)) (hE44 q9 hq1) (by decide)) (hU43.n (gne_c (hU3.n (gne_c hM_0 (hP_0 p9 hp) (by decide)) hM_0) (hE4 x_5 hc1) (by decide)) (hU3.n (gne_c hM_0 (hP_0 p9 hp) (by decide)) hM_0)))
    refine g_aload_n hC dJ9_rotateRight_40 2 rfl gRef_r 41 rfl ?_
    refine g_get (v := va_rf ((va_up (va_up pa x_5 (some p9)) q9 (pa p9)) p9)) hC cI25 (hE47 p9 hp) 4 (Nat.le_of_ble_eq_true rfl) q1032 rfl dJ9_rotateRight_41 44 rfl ?_
    refine g_topv (y := va_rf (pa p9)) (congrArg va_rf (show (va_up (va_up pa x_5 (some p9)) q9 (pa p9)) p9 = pa p9 from (by rw [va_up_ne _ _ hne, va_up_ne _ _ (Ne.symm hcp)]))) ?_
    refine g_ifnonnull hC dJ9_rotateRight_44 55 rfl 47 rfl (fun x_49 e_50 => ?_) (fun e_50 => ?_)
    · obtain ⟨hg1, -⟩ := hI.2.2.2.2.2.2.2.2.1 p9 hp x_49 e_50
      have hgp : x_49 ≠ p9 := hI.nepa hp e_50
      have hgq : x_49 ≠ q9 := hI.nepa2 hq1 hq2 e_50
      refine g_aload_n hC dJ9_rotateRight_55 2 rfl gRef_r 56 rfl ?_
      refine g_get (v := va_rf ((va_up (va_up pa x_5 (some p9)) q9 (pa p9)) p9)) hC cI25 (hE47 p9 hp) 4 (Nat.le_of_ble_eq_true rfl) q1032 rfl dJ9_rotateRight_56 59 rfl ?_
      refine g_topv (y := .ref x_49) (congrArg va_rf (show (va_up (va_up pa x_5 (some p9)) q9 (pa p9)) p9 = some x_49 from (by rw [va_up_ne _ _ hne, va_up_ne _ _ (Ne.symm hcp)]; exact e_50))) ?_
      refine g_get (v := va_rf (rt x_49)) hC cI25 (hE47 x_49 hg1) 3 (Nat.le_of_ble_eq_true rfl) q1030 rfl dJ9_rotateRight_59 62 rfl ?_
      refine g_aload_n hC dJ9_rotateRight_62 2 rfl gRef_r 63 rfl ?_
      refine g_acmp_ne (rx := rt x_49) (ry := some p9) hC dJ9_rotateRight_63 77 rfl 66 rfl (fun c_51 => ?_) (fun c_51 => ?_)
      · refine g_aload_n hC dJ9_rotateRight_77 2 rfl gRef_r 78 rfl ?_
        refine g_get (v := va_rf ((va_up (va_up pa x_5 (some p9)) q9 (pa p9)) p9)) hC cI25 (hE47 p9 hp) 4 (Nat.le_of_ble_eq_true rfl) q1032 rfl dJ9_rotateRight_78 81 rfl ?_
        refine g_topv (y := .ref x_49) (congrArg va_rf (show (va_up (va_up pa x_5 (some p9)) q9 (pa p9)) p9 = some x_49 from (by rw [va_up_ne _ _ hne, va_up_ne _ _ (Ne.symm hcp)]; exact e_50))) ?_
        refine g_aload_n hC dJ9_rotateRight_81 0 rfl gRef_r 82 rfl ?_
        refine g_put hC cI25 (hE47 x_49 hg1) 2 (Nat.le_of_ble_eq_true rfl) q1028 rfl rfl rfl (Nat.le_of_ble_eq_true rfl) dJ9_rotateRight_82 (fs' := [.ref (kb x_49), .ref (vl x_49), .ref q9, va_rf (rt x_49), va_rf ((va_up (va_up pa x_5 (some p9)) q9 (pa p9)) x_49), .int (bI (co x_49))]) rfl 85 rfl (fun M52 hU53 => ?_)
        have hE54 : tmE M52 t1 Ns kb vl (va_up (va_up lf p9 (rt q9)) x_49 (some q9)) rt (va_up (va_up pa x_5 (some p9)) q9 (pa p9)) co := tmE.s2 hE47 (v := some q9) hU53
        refine g_aload_n hC dJ9_rotateRight_85 0 rfl gRef_r 86 rfl ?_
        refine g_aload_n hC dJ9_rotateRight_86 2 rfl gRef_r 87 rfl ?_
        refine g_put hC cI25 (hE54 q9 hq1) 3 (Nat.le_of_ble_eq_true rfl) q1030 rfl rfl rfl (Nat.le_of_ble_eq_true rfl) dJ9_rotateRight_87 (fs' := [.ref (kb q9), .ref (vl q9), va_rf ((va_up (va_up lf p9 (rt q9)) x_49 (some q9)) q9), .ref p9, va_rf ((va_up (va_up pa x_5 (some p9)) q9 (pa p9)) q9), .int (bI (co q9))]) rfl 90 rfl (fun M55 hU56 => ?_)
        have hE57 : tmE M55 t1 Ns kb vl (va_up (va_up lf p9 (rt q9)) x_49 (some q9)) (va_up rt q9 (some p9)) (va_up (va_up pa x_5 (some p9)) q9 (pa p9)) co := tmE.s3 hE54 (v := some p9) hU56
        refine g_aload_n hC dJ9_rotateRight_90 2 rfl gRef_r 91 rfl ?_
        refine g_aload_n hC dJ9_rotateRight_91 0 rfl gRef_r 92 rfl ?_
        refine g_put hC cI25 (hE57 p9 hp) 4 (Nat.le_of_ble_eq_true rfl) q1032 rfl rfl rfl (Nat.le_of_ble_eq_true rfl) dJ9_rotateRight_92 (fs' := [.ref (kb p9), .ref (vl p9), va_rf ((va_up (va_up lf p9 (rt q9)) x_49 (some q9)) p9), va_rf ((va_up rt q9 (some p9)) p9), .ref q9, .int (bI (co p9))]) rfl 95 rfl (fun M58 hU59 => ?_)
        have hE60 : tmE M58 t1 Ns kb vl (va_up (va_up lf p9 (rt q9)) x_49 (some q9)) (va_up rt q9 (some p9)) (va_up (va_up (va_up pa x_5 (some p9)) q9 (pa p9)) p9 (some q9)) co := tmE.s4 hE57 (v := some q9) hU59
        exact g_vret hC (fun k9 hk9 => ⟨(by rw [(hU59.n (gne_c (hU56.n (gne_c (hU53.n (gne_c hH48 (hE47 x_49 hg1) (by decide)) hH48) (hE54 q9 hq1) (by decide)) (hU53.n (gne_c hH48 (hE47 x_49 hg1) (by decide)) hH48)) (hE57 p9 hp) (by decide)) (hU56.n (gne_c (hU53.n (gne_c hH48 (hE47 x_49 hg1) (by decide)) hH48) (hE54 q9 hq1) (by decide)) (hU53.n (gne_c hH48 (hE47 x_49 hg1) (by decide)) hH48)))]; simp only [rlT, e_50]; all_goals rfl), (by have hz := hE60; simp only [rlL, rlR, rlP, e_6, e_50, if_neg (fun z => c_51 z)] at hz ⊢; exact hz), ((((((gFr.refl.up hU3 (hP_0 p9 hp) (show (fun t => tgE t0.1 t0.2 t ∨ tgE t1.1 t1.2 t) t1 by (try simp only [ndT, tgE, gT, tgR, ndT9, tg0, Prod.mk.injEq]); first | done | omega | (simp; done))).up hU43 (hE4 x_5 hc1) (show (fun t => tgE t0.1 t0.2 t ∨ tgE t1.1 t1.2 t) t1 by (try simp only [ndT, tgE, gT, tgR, ndT9, tg0, Prod.mk.injEq]); first | done | omega | (simp; done))).up hU46 (hE44 q9 hq1) (show (fun t => tgE t0.1 t0.2 t ∨ tgE t1.1 t1.2 t) t1 by (try simp only [ndT, tgE, gT, tgR, ndT9, tg0, Prod.mk.injEq]); first | done | omega | (simp; done))).up hU53 (hE47 x_49 hg1) (show (fun t => tgE t0.1 t0.2 t ∨ tgE t1.1 t1.2 t) t1 by (try simp only [ndT, tgE, gT, tgR, ndT9, tg0, Prod.mk.injEq]); first | done | omega | (simp; done))).up hU56 (hE54 q9 hq1) (show (fun t => tgE t0.1 t0.2 t ∨ tgE t1.1 t1.2 t) t1 by (try simp only [ndT, tgE, gT, tgR, ndT9, tg0, Prod.mk.injEq]); first | done | omega | (simp; done))).up hU59 (hE57 p9 hp) (show (fun t => tgE t0.1 t0.2 t ∨ tgE t1.1 t1.2 t) t1 by (try simp only [ndT, tgE, gT, tgR, ndT9, tg0, Prod.mk.injEq]); first | done | omega | (simp; done))), (by first | exact Nat.le_zero.mp hk9 | omega)⟩) dJ9_rotateRight_95 (Nat.le_of_ble_eq_true rfl) (Nat.le_of_ble_eq_true rfl)
      · refine g_aload_n hC dJ9_rotateRight_66 2 rfl gRef_r 67 rfl ?_
        refine g_get (v := va_rf ((va_up (va_up pa x_5 (some p9)) q9 (pa p9)) p9)) hC cI25 (hE47 p9 hp) 4 (Nat.le_of_ble_eq_true rfl) q1032 rfl dJ9_rotateRight_67 70 rfl ?_
        refine g_topv (y := .ref x_49) (congrArg va_rf (show (va_up (va_up pa x_5 (some p9)) q9 (pa p9)) p9 = some x_49 from (by rw [va_up_ne _ _ hne, va_up_ne _ _ (Ne.symm hcp)]; exact e_50))) ?_
        refine g_aload_n hC dJ9_rotateRight_70 0 rfl gRef_r 71 rfl ?_
        refine g_put hC cI25 (hE47 x_49 hg1) 3 (Nat.le_of_ble_eq_true rfl) q1030 rfl rfl rfl (Nat.le_of_ble_eq_true rfl) dJ9_rotateRight_71 (fs' := [.ref (kb x_49), .ref (vl x_49), va_rf ((va_up lf p9 (rt q9)) x_49), .ref q9, va_rf ((va_up (va_up pa x_5 (some p9)) q9 (pa p9)) x_49), .int (bI (co x_49))]) rfl 74 rfl (fun M61 hU62 => ?_)
        have hE63 : tmE M61 t1 Ns kb vl (va_up lf p9 (rt q9)) (va_up rt x_49 (some q9)) (va_up (va_up pa x_5 (some p9)) q9 (pa p9)) co := tmE.s3 hE47 (v := some q9) hU62
        refine g_goto hC dJ9_rotateRight_74 85 rfl ?_
        refine g_aload_n hC dJ9_rotateRight_85 0 rfl gRef_r 86 rfl ?_
        refine g_aload_n hC dJ9_rotateRight_86 2 rfl gRef_r 87 rfl ?_
        refine g_put hC cI25 (hE63 q9 hq1) 3 (Nat.le_of_ble_eq_true rfl) q1030 rfl rfl rfl (Nat.le_of_ble_eq_true rfl) dJ9_rotateRight_87 (fs' := [.ref (kb q9), .ref (vl q9), va_rf ((va_up lf p9 (rt q9)) q9), .ref p9, va_rf ((va_up (va_up pa x_5 (some p9)) q9 (pa p9)) q9), .int (bI (co q9))]) rfl 90 rfl (fun M64 hU65 => ?_)
        have hE66 : tmE M64 t1 Ns kb vl (va_up lf p9 (rt q9)) (va_up (va_up rt x_49 (some q9)) q9 (some p9)) (va_up (va_up pa x_5 (some p9)) q9 (pa p9)) co := tmE.s3 hE63 (v := some p9) hU65
        refine g_aload_n hC dJ9_rotateRight_90 2 rfl gRef_r 91 rfl ?_
        refine g_aload_n hC dJ9_rotateRight_91 0 rfl gRef_r 92 rfl ?_
        refine g_put hC cI25 (hE66 p9 hp) 4 (Nat.le_of_ble_eq_true rfl) q1032 rfl rfl rfl (Nat.le_of_ble_eq_true rfl) dJ9_rotateRight_92 (fs' := [.ref (kb p9), .ref (vl p9), va_rf ((va_up lf p9 (rt q9)) p9), va_rf ((va_up (va_up rt x_49 (some q9)) q9 (some p9)) p9), .ref q9, .int (bI (co p9))]) rfl 95 rfl (fun M67 hU68 => ?_)
        have hE69 : tmE M67 t1 Ns kb vl (va_up lf p9 (rt q9)) (va_up (va_up rt x_49 (some q9)) q9 (some p9)) (va_up (va_up (va_up pa x_5 (some p9)) q9 (pa p9)) p9 (some q9)) co := tmE.s4 hE66 (v := some q9) hU68
        exact g_vret hC (fun k9 hk9 => ⟨(by rw [(hU68.n (gne_c (hU65.n (gne_c (hU62.n (gne_c hH48 (hE47 x_49 hg1) (by decide)) hH48) (hE63 q9 hq1) (by decide)) (hU62.n (gne_c hH48 (hE47 x_49 hg1) (by decide)) hH48)) (hE66 p9 hp) (by decide)) (hU65.n (gne_c (hU62.n (gne_c hH48 (hE47 x_49 hg1) (by decide)) hH48) (hE63 q9 hq1) (by decide)) (hU62.n (gne_c hH48 (hE47 x_49 hg1) (by decide)) hH48)))]; simp only [rlT, e_50]; all_goals rfl), (by have hz := hE69; simp only [rlL, rlR, rlP, e_6, e_50, if_pos c_51] at hz ⊢; exact hz), ((((((gFr.refl.up hU3 (hP_0 p9 hp) (show (fun t => tgE t0.1 t0.2 t ∨ tgE t1.1 t1.2 t) t1 by (try simp only [ndT, tgE, gT, tgR, ndT9, tg0, Prod.mk.injEq]); first | done | omega | (simp; done))).up hU43 (hE4 x_5 hc1) (show (fun t => tgE t0.1 t0.2 t ∨ tgE t1.1 t1.2 t) t1 by (try simp only [ndT, tgE, gT, tgR, ndT9, tg0, Prod.mk.injEq]); first | done | omega | (simp; done))).up hU46 (hE44 q9 hq1) (show (fun t => tgE t0.1 t0.2 t ∨ tgE t1.1 t1.2 t) t1 by (try simp only [ndT, tgE, gT, tgR, ndT9, tg0, Prod.mk.injEq]); first | done | omega | (simp; done))).up hU62 (hE47 x_49 hg1) (show (fun t => tgE t0.1 t0.2 t ∨ tgE t1.1 t1.2 t) t1 by (try simp only [ndT, tgE, gT, tgR, ndT9, tg0, Prod.mk.injEq]); first | done | omega | (simp; done))).up hU65 (hE63 q9 hq1) (show (fun t => tgE t0.1 t0.2 t ∨ tgE t1.1 t1.2 t) t1 by (try simp only [ndT, tgE, gT, tgR, ndT9, tg0, Prod.mk.injEq]); first | done | omega | (simp; done))).up hU68 (hE66 p9 hp) (show (fun t => tgE t0.1 t0.2 t ∨ tgE t1.1 t1.2 t) t1 by (try simp only [ndT, tgE, gT, tgR, ndT9, tg0, Prod.mk.injEq]); first | done | omega | (simp; done))), (by first | exact Nat.le_zero.mp hk9 | omega)⟩) dJ9_rotateRight_95 (Nat.le_of_ble_eq_true rfl) (Nat.le_of_ble_eq_true rfl)
    · refine g_aload_n hC dJ9_rotateRight_47 1 rfl gRef_r 48 rfl ?_
      refine g_aload_n hC dJ9_rotateRight_48 0 rfl gRef_r 49 rfl ?_
      refine g_put hC cI24 hH48 3 (Nat.le_of_ble_eq_true rfl) q343 rfl rfl rfl (Nat.le_of_ble_eq_true rfl) dJ9_rotateRight_49 (fs' := [.null, .null, .ref cm, .ref q9, .int (nI n), .int mc, .null, va_rf ks, .null]) rfl 52 rfl (fun M70 hU71 => ?_)
      refine g_goto hC dJ9_rotateRight_52 85 rfl ?_
      refine g_aload_n hC dJ9_rotateRight_85 0 rfl gRef_r 86 rfl ?_
      refine g_aload_n hC dJ9_rotateRight_86 2 rfl gRef_r 87 rfl ?_
      refine g_put hC cI25 ((tmE.fr hE47 (gFr.refl.up hU71 hH48 (show (fun t => ¬ (tgE t1.1 t1.2) t) t0 by (try simp only [ndT, tgE, gT, tgR, ndT9, tg0, Prod.mk.injEq]); first | done | omega | (simp; done)))) q9 hq1) 3 (Nat.le_of_ble_eq_true rfl) q1030 rfl rfl rfl (Nat.le_of_ble_eq_true rfl) dJ9_rotateRight_87 (fs' := [.ref (kb q9), .ref (vl q9), va_rf ((va_up lf p9 (rt q9)) q9), .ref p9, va_rf ((va_up (va_up pa x_5 (some p9)) q9 (pa p9)) q9), .int (bI (co q9))]) rfl 90 rfl (fun M72 hU73 => ?_)
      have hE74 : tmE M72 t1 Ns kb vl (va_up lf p9 (rt q9)) (va_up rt q9 (some p9)) (va_up (va_up pa x_5 (some p9)) q9 (pa p9)) co := tmE.s3 (tmE.fr hE47 (gFr.refl.up hU71 hH48 (show (fun t => ¬ (tgE t1.1 t1.2) t) t0 by (try simp only [ndT, tgE, gT, tgR, ndT9, tg0, Prod.mk.injEq]); first | done | omega | (simp; done)))) (v := some p9) hU73
      refine g_aload_n hC dJ9_rotateRight_90 2 rfl gRef_r 91 rfl ?_
      refine g_aload_n hC dJ9_rotateRight_91 0 rfl gRef_r 92 rfl ?_
      refine g_put hC cI25 (hE74 p9 hp) 4 (Nat.le_of_ble_eq_true rfl) q1032 rfl rfl rfl (Nat.le_of_ble_eq_true rfl) dJ9_rotateRight_92 (fs' := [.ref (kb p9), .ref (vl p9), va_rf ((va_up lf p9 (rt q9)) p9), va_rf ((va_up rt q9 (some p9)) p9), .ref q9, .int (bI (co p9))]) rfl 95 rfl (fun M75 hU76 => ?_)
      have hE77 : tmE M75 t1 Ns kb vl (va_up lf p9 (rt q9)) (va_up rt q9 (some p9)) (va_up (va_up (va_up pa x_5 (some p9)) q9 (pa p9)) p9 (some q9)) co := tmE.s4 hE74 (v := some q9) hU76
      exact g_vret hC (fun k9 hk9 => ⟨(by rw [(hU76.n (gne_c (hU73.n (gne_c hU71.1 ((tmE.fr hE47 (gFr.refl.up hU71 hH48 (show (fun t => ¬ (tgE t1.1 t1.2) t) t0 by (try simp only [ndT, tgE, gT, tgR, ndT9, tg0, Prod.mk.injEq]); first | done | omega | (simp; done)))) q9 hq1) (by decide)) hU71.1) (hE74 p9 hp) (by decide)) (hU73.n (gne_c hU71.1 ((tmE.fr hE47 (gFr.refl.up hU71 hH48 (show (fun t => ¬ (tgE t1.1 t1.2) t) t0 by (try simp only [ndT, tgE, gT, tgR, ndT9, tg0, Prod.mk.injEq]); first | done | omega | (simp; done)))) q9 hq1) (by decide)) hU71.1))]; simp only [rlT, e_50]; all_goals rfl), (by have hz := hE77; simp only [rlL, rlR, rlP, e_6, e_50] at hz ⊢; exact hz), ((((((gFr.refl.up hU3 (hP_0 p9 hp) (show (fun t => tgE t0.1 t0.2 t ∨ tgE t1.1 t1.2 t) t1 by (try simp only [ndT, tgE, gT, tgR, ndT9, tg0, Prod.mk.injEq]); first | done | omega | (simp; done))).up hU43 (hE4 x_5 hc1) (show (fun t => tgE t0.1 t0.2 t ∨ tgE t1.1 t1.2 t) t1 by (try simp only [ndT, tgE, gT, tgR, ndT9, tg0, Prod.mk.injEq]); first | done | omega | (simp; done))).up hU46 (hE44 q9 hq1) (show (fun t => tgE t0.1 t0.2 t ∨ tgE t1.1 t1.2 t) t1 by (try simp only [ndT, tgE, gT, tgR, ndT9, tg0, Prod.mk.injEq]); first | done | omega | (simp; done))).up hU71 hH48 (show (fun t => tgE t0.1 t0.2 t ∨ tgE t1.1 t1.2 t) t0 by (try simp only [ndT, tgE, gT, tgR, ndT9, tg0, Prod.mk.injEq]); first | done | omega | (simp; done))).up hU73 ((tmE.fr hE47 (gFr.refl.up hU71 hH48 (show (fun t => ¬ (tgE t1.1 t1.2) t) t0 by (try simp only [ndT, tgE, gT, tgR, ndT9, tg0, Prod.mk.injEq]); first | done | omega | (simp; done)))) q9 hq1) (show (fun t => tgE t0.1 t0.2 t ∨ tgE t1.1 t1.2 t) t1 by (try simp only [ndT, tgE, gT, tgR, ndT9, tg0, Prod.mk.injEq]); first | done | omega | (simp; done))).up hU76 (hE74 p9 hp) (show (fun t => tgE t0.1 t0.2 t ∨ tgE t1.1 t1.2 t) t1 by (try simp only [ndT, tgE, gT, tgR, ndT9, tg0, Prod.mk.injEq]); first | done | omega | (simp; done))), (by first | exact Nat.le_zero.mp hk9 | omega)⟩) dJ9_rotateRight_95 (Nat.le_of_ble_eq_true rfl) (Nat.le_of_ble_eq_true rfl)
set_option maxHeartbeats 4000000 in
theorem met_TM_rotL_n (l : Launch) (G : gG) (M : gM) (mp : Nat)   : Met l yJ9_rotateLeft (ws_ yJ9_rotateLeft cJ9_rotateLeft 3 none) ({ frames := 0, cells := 0, slots := 0, locals := 0 }) (gPc G [.ref mp, .null] M) (gQv G (fun M9 k9 => M9 = M ∧ k9 = 0)) 0 0 (gA G) := by
  refine gMet [(0, .ref mp), (1, .null)] (by decide) (Nat.le_of_ble_eq_true rfl) rfl ?_
  intro p e s m below meth c hC
  refine g_aload_n hC dJ9_rotateLeft_0 1 rfl gRef_n 1 rfl ?_
  refine g_ifnull (r := none) hC dJ9_rotateLeft_1 95 rfl 4 rfl (fun _ => ?_) (fun _ q => by cases q)
  exact g_vret hC (fun k9 hk9 => ⟨rfl, Nat.le_zero.mp hk9⟩) dJ9_rotateLeft_95 (Nat.le_of_ble_eq_true rfl) (Nat.le_of_ble_eq_true rfl)
set_option maxHeartbeats 4000000 in
theorem met_TM_rotR_n (l : Launch) (G : gG) (M : gM) (mp : Nat)   : Met l yJ9_rotateRight (ws_ yJ9_rotateRight cJ9_rotateRight 3 none) ({ frames := 0, cells := 0, slots := 0, locals := 0 }) (gPc G [.ref mp, .null] M) (gQv G (fun M9 k9 => M9 = M ∧ k9 = 0)) 0 0 (gA G) := by
  refine gMet [(0, .ref mp), (1, .null)] (by decide) (Nat.le_of_ble_eq_true rfl) rfl ?_
  intro p e s m below meth c hC
  refine g_aload_n hC dJ9_rotateRight_0 1 rfl gRef_n 1 rfl ?_
  refine g_ifnull (r := none) hC dJ9_rotateRight_1 95 rfl 4 rfl (fun _ => ?_) (fun _ q => by cases q)
  exact g_vret hC (fun k9 hk9 => ⟨rfl, Nat.le_zero.mp hk9⟩) dJ9_rotateRight_95 (Nat.le_of_ble_eq_true rfl) (Nat.le_of_ble_eq_true rfl)
