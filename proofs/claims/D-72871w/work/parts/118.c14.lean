/-! TreeMap: neighbours and keys in order, packed -/
set_option maxRecDepth 100000
def thi (C : List (Int32 × Nat)) (k : Int32) : Option (Int32 × Nat) := C.find? (fun e => decide (k < e.1))
def tlo (C : List (Int32 × Nat)) (k : Int32) : Option (Int32 × Nat) := C.reverse.find? (fun e => decide (e.1 < k))
theorem thi_map {Ns : List Nat} {ky : Nat → Int32} {vl : Nat → Nat} {k : Int32} : thi (Ns.map (fun a => (ky a, vl a))) k = (tmH Ns ky k).map (fun a => (ky a, vl a)) := by
  unfold thi tmH
  rw [List.find?_map]; rfl
theorem tlo_map {Ns : List Nat} {ky : Nat → Int32} {vl : Nat → Nat} {k : Int32} : tlo (Ns.map (fun a => (ky a, vl a))) k = (tmL Ns ky k).map (fun a => (ky a, vl a)) := by
  unfold tlo tmL
  rw [← List.map_reverse, List.find?_map]; rfl
theorem tmH_next {Ns : List Nat} {ky : Nat → Int32} (hs : tmS Ns ky) {i a : Nat} (h : Ns[i]? = some a) : tmH Ns ky (ky a) = Ns[i + 1]? := by
  have hg := List.pairwise_iff_getElem.mp hs
  obtain ⟨hi, rfl⟩ := List.getElem?_eq_some_iff.mp h
  by_cases h1 : i + 1 < Ns.length
  · rw [List.getElem?_eq_getElem h1]
    refine tmH_some hs (List.getElem_mem h1) (hg i (i + 1) hi h1 (by omega)) (fun c hc q1 q2 => ?_)
    obtain ⟨j, hj, rfl⟩ := List.getElem_of_mem hc
    rcases Nat.lt_trichotomy j (i + 1) with z | z | z
    · by_cases e : j = i
      · subst e; exact i32ir _ q1
      · exact i32ir _ (Int32.lt_trans q1 (hg j i hj hi (by omega)))
    · subst z; exact i32ir _ q2
    · exact i32ir _ (Int32.lt_trans q2 (hg (i + 1) j h1 hj z))
  · rw [List.getElem?_eq_none (by omega)]
    refine tmH_none (fun c hc q1 => ?_)
    obtain ⟨j, hj, rfl⟩ := List.getElem_of_mem hc
    by_cases e : j = i
    · subst e; exact i32ir _ q1
    · exact i32ir _ (Int32.lt_trans q1 (hg j i hj hi (by omega)))
set_option maxHeartbeats 4000000 in
theorem met_TMap_higherKey (l : Launch) (G : gG) (M : gM) (mp : Nat) (t0 : Nat × Nat) (t1 : Nat × Nat) (C : List (Int32 × Nat)) (k0 : Nat) (k : Int32)   (hP_0 : isTM M G t0 t1 mp C) (hP_1 : bxP M G k0 k) : Met l yJ9_higherKey (ws_ yJ9_higherKey cJ9_higherKey 2 (some (.object "java/lang/Object"))) ({ frames := 5, cells := 0, slots := 0, locals := 112 }) (gPc G [.ref mp, .ref k0] M) (gQq G (fun r9 M9 k9 => ∃ o9 : Option Nat, r9 = o9 ∧ gFr (gL []) M M9 ∧ (∀ e, thi C k = some e → ∃ a, o9 = some a ∧ bxP M9 G a e.1) ∧ (thi C k = none → o9 = none) ∧ k9 = 0)) 0 0 (gA G) := by
  obtain ⟨cm, r, mc, ks, Ns, kb, vl, ky, lf, rt, pa, co, lo, hi, h1, h2, h3, h4, h5, h6, h7, rfl⟩ := hP_0
  refine gMono_q (met_TM_higherKey0 l G M mp t0 cm r Ns.length mc ks t1 Ns kb vl lf rt pa co ky lo hi k0 k h6 h7 hP_1 h1 h2 h4 h5) ?_
  intro r9 M9 k9 ⟨e1, e2, e3⟩
  subst e2
  rw [thi_map]
  refine ⟨(tmH Ns ky k).map kb, e1, gFr.refl, fun e he => ?_, fun he => ?_, e3⟩
  · cases q : tmH Ns ky k with
    | none => rw [q] at he; cases he
    | some a => rw [q] at he; cases Option.some.inj he; exact ⟨kb a, rfl, h5 a (tmH_mem q)⟩
  · cases q : tmH Ns ky k with
    | none => rfl
    | some a => rw [q] at he; cases he
set_option maxHeartbeats 4000000 in
theorem met_TMap_lowerKey (l : Launch) (G : gG) (M : gM) (mp : Nat) (t0 : Nat × Nat) (t1 : Nat × Nat) (C : List (Int32 × Nat)) (k0 : Nat) (k : Int32)   (hP_0 : isTM M G t0 t1 mp C) (hP_1 : bxP M G k0 k) : Met l yJ9_lowerKey (ws_ yJ9_lowerKey cJ9_lowerKey 2 (some (.object "java/lang/Object"))) ({ frames := 5, cells := 0, slots := 0, locals := 112 }) (gPc G [.ref mp, .ref k0] M) (gQq G (fun r9 M9 k9 => ∃ o9 : Option Nat, r9 = o9 ∧ gFr (gL []) M M9 ∧ (∀ e, tlo C k = some e → ∃ a, o9 = some a ∧ bxP M9 G a e.1) ∧ (tlo C k = none → o9 = none) ∧ k9 = 0)) 0 0 (gA G) := by
  obtain ⟨cm, r, mc, ks, Ns, kb, vl, ky, lf, rt, pa, co, lo, hi, h1, h2, h3, h4, h5, h6, h7, rfl⟩ := hP_0
  refine gMono_q (met_TM_lowerKey0 l G M mp t0 cm r Ns.length mc ks t1 Ns kb vl lf rt pa co ky lo hi k0 k h6 h7 hP_1 h1 h2 h4 h5) ?_
  intro r9 M9 k9 ⟨e1, e2, e3⟩
  subst e2
  rw [tlo_map]
  refine ⟨(tmL Ns ky k).map kb, e1, gFr.refl, fun e he => ?_, fun he => ?_, e3⟩
  · cases q : tmL Ns ky k with
    | none => rw [q] at he; cases he
    | some a => rw [q] at he; cases Option.some.inj he; exact ⟨kb a, rfl, h5 a (tmL_mem q)⟩
  · cases q : tmL Ns ky k with
    | none => rfl
    | some a => rw [q] at he; cases he
def isTI (M : gM) (G : gG) (t0 t1 : Nat × Nat) (mp : Nat) (C : List (Int32 × Nat)) (i it : Nat) : Prop :=
  ∃ (cm : Nat) (r : Option Nat) (mc : Int32) (ks : Option Nat) (Ns : List Nat) (kb vl : Nat → Nat) (ky : Nat → Int32) (lf rt pa : Nat → Option Nat) (co : Nat → Bool) (lo hi : Nat → Option Nat) (lr : Option Nat), M mp = some (t0, .inr (24, [.null, .null, .ref cm, va_rf r, .int (nI Ns.length), .int mc, .null, va_rf ks, .null])) ∧ M cm = some ((0, 5), .inr (5, [])) ∧ (∀ a, ks = some a → M a = some ((0, 6), .inr (26, [.ref mp]))) ∧ tmE M t1 Ns kb vl lf rt pa co ∧ tmB M G Ns kb ky ∧ tmI r Ns (kyR ky) lf rt pa lo hi ∧ tmS Ns ky ∧ C = Ns.map (fun a => (ky a, vl a)) ∧ M it = some ((9, 1), .inr (27, [va_rf (Ns[i]?), va_rf lr, .int mc, .ref mp]))
theorem isTI.tm {M : gM} {G : gG} {t0 t1 : Nat × Nat} {mp i it : Nat} {C : List (Int32 × Nat)} (h : isTI M G t0 t1 mp C i it) : isTM M G t0 t1 mp C := by
  obtain ⟨cm, r, mc, ks, Ns, kb, vl, ky, lf, rt, pa, co, lo, hi, lr, h1, h2, h3, h4, h5, h6, h7, h8, -⟩ := h
  exact ⟨cm, r, mc, ks, Ns, kb, vl, ky, lf, rt, pa, co, lo, hi, h1, h2, h3, h4, h5, h6, h7, h8⟩
theorem isTI.fr {M M' : gM} {G : gG} {t0 t1 : Nat × Nat} {mp i it : Nat} {C : List (Int32 × Nat)} (h : isTI M G t0 t1 mp C i it) (hF : gFr (gT (fun t => ¬ (fun t => tgE t0.1 t0.2 t ∨ tgE t1.1 t1.2 t ∨ tg0 t ∨ tgE 9 1 t) t)) M M') : isTI M' G t0 t1 mp C i it := by
  obtain ⟨cm, r, mc, ks, Ns, kb, vl, ky, lf, rt, pa, co, lo, hi, lr, h1, h2, h3, h4, h5, h6, h7, h8, h9⟩ := h
  exact ⟨cm, r, mc, ks, Ns, kb, vl, ky, lf, rt, pa, co, lo, hi, lr, hF _ _ _ h1 (fun q => q (Or.inl ⟨rfl, rfl⟩)), hF _ _ _ h2 (fun q => q (Or.inr (Or.inr (Or.inl rfl)))), fun a ha => hF _ _ _ (h3 a ha) (fun q => q (Or.inr (Or.inr (Or.inl rfl)))), h4.fr (hF.mono (fun _ t q z => q (Or.inr (Or.inl z)))), h5.fr (hF.mono (fun _ t q z => q (Or.inr (Or.inr (Or.inl z))))), h6, h7, h8, hF _ _ _ h9 (fun q => q (Or.inr (Or.inr (Or.inr ⟨rfl, rfl⟩))))⟩
set_option maxHeartbeats 4000000 in
theorem met_TMap_keySet (l : Launch) (G : gG) (M : gM) (mp : Nat) (t0 : Nat × Nat) (t1 : Nat × Nat) (C : List (Int32 × Nat)) (ht0 : t0.1 ≠ 0) (ht : ¬ (t0.1 = t1.1 ∧ t0.2 = t1.2))  (hP_0 : isTM M G t0 t1 mp C) : Met l yJ9_keySet (ws_ yJ9_keySet cJ9_keySet 1 (some (.object "java/util/Set"))) ({ frames := 5, cells := 1, slots := 1, locals := 120 }) (gPc G [.ref mp] M) (gQq G (fun r9 M9 k9 => ∃ ka : Nat, r9 = (some ka) ∧ M9 ka = some ((0, 6), .inr (26, [.ref mp])) ∧ isTM M9 G t0 t1 mp C ∧ gFr (gT (tgE t0.1 t0.2)) M M9 ∧ k9 ≤ 1)) 1 1 (gA G) := by
  obtain ⟨cm, r, mc, ks, Ns, kb, vl, ky, lf, rt, pa, co, lo, hi, h1, h2, h3, h4, h5, h6, h7, rfl⟩ := hP_0
  cases ks with
  | some ka =>
    refine gMono_q (met_TM_keySet_s l G M mp t0 cm r Ns.length mc ka h1) ?_
    intro r9 M9 k9 ⟨e1, e2, e3⟩
    subst e2
    exact ⟨ka, e1, h3 ka rfl, ⟨cm, r, mc, some ka, Ns, kb, vl, ky, lf, rt, pa, co, lo, hi, h1, h2, h3, h4, h5, h6, h7, rfl⟩, gFr.refl, by omega⟩
  | none =>
    refine gMono_q (met_TM_keySet_n l G M mp t0 cm r Ns.length mc h1) ?_
    intro r9 M9 k9 ⟨ka, e1, q1, q2, q3, q4⟩
    have hF : gFr (gT (tgE t0.1 t0.2)) M M9 := q3.tg (fun b hb t e he => by cases List.mem_singleton.mp hb; rw [h1] at he; cases he; exact ⟨rfl, rfl⟩)
    have hG : gFr (gT (fun t => ¬ tg0 t)) M M9 := hF.mono (fun _ t q z => ht0 (q.1.symm.trans z))
    have hE : gFr (gT (fun t => ¬ tgE t1.1 t1.2 t)) M M9 := hF.mono (fun _ t q z => ht ⟨q.1.symm.trans z.1, q.2.symm.trans z.2⟩)
    exact ⟨ka, e1, q2, ⟨cm, r, mc, some ka, Ns, kb, vl, ky, lf, rt, pa, co, lo, hi, q1, hG _ _ _ h2 (fun z => z rfl), fun a ha => (by cases Option.some.inj ha; exact q2), h4.fr hE, h5.fr hG, h6, h7, rfl⟩, hF, q4⟩
set_option maxHeartbeats 4000000 in
theorem met_TMap_iter (l : Launch) (G : gG) (M : gM) (mp : Nat) (t0 : Nat × Nat) (t1 : Nat × Nat) (C : List (Int32 × Nat)) (ka : Nat)  (hM_0 : M ka = some ((0, 6), .inr (26, [.ref mp]))) (hP_0 : isTM M G t0 t1 mp C) : Met l yJ39_iterator (ws_ yJ39_iterator cJ39_iterator 1 (some (.object "java/util/Iterator"))) ({ frames := 4, cells := 1, slots := 4, locals := 76 }) (gPc G [.ref ka] M) (gQq G (fun r9 M9 k9 => ∃ it : Nat, r9 = (some it) ∧ isTI M9 G t0 t1 mp C 0 it ∧ gFr (gL []) M M9 ∧ k9 ≤ 1)) 1 4 (gA G) := by
  obtain ⟨cm, r, mc, ks, Ns, kb, vl, ky, lf, rt, pa, co, lo, hi, h1, h2, h3, h4, h5, h6, h7, rfl⟩ := hP_0
  refine gMono_q (met_TMk_iter l G M mp t0 cm r Ns.length mc ks t1 Ns kb vl lf rt pa co ky lo hi ka h6 h7 h1 hM_0 h4) ?_
  intro r9 M9 k9 ⟨it, e1, q1, q2, q3⟩
  have hx : ∀ a y, M a = some y → M9 a = some y := fun a y ha => q2 a y.1 y.2 ha gno0
  exact ⟨it, e1, ⟨cm, r, mc, ks, Ns, kb, vl, ky, lf, rt, pa, co, lo, hi, none, hx _ _ h1, hx _ _ h2, fun a ha => hx _ _ (h3 a ha), fun a ha => hx _ _ (h4 a ha), fun a ha => (h5 a ha).fr q2 (fun b t q => absurd q List.not_mem_nil), h6, h7, rfl, by rw [← List.head?_eq_getElem?]; exact q1⟩, q2, q3⟩
set_option maxHeartbeats 4000000 in
theorem met_TMap_hasNext (l : Launch) (G : gG) (M : gM) (mp : Nat) (t0 : Nat × Nat) (t1 : Nat × Nat) (C : List (Int32 × Nat)) (i : Nat) (it : Nat)   (hP_0 : isTI M G t0 t1 mp C i it) : Met l yJ40_hasNext (ws_ yJ40_hasNext cJ40_hasNext 1 (some .boolean)) ({ frames := 0, cells := 0, slots := 0, locals := 0 }) (gPc G [.ref it] M) (gQi G (fun r9 M9 k9 => r9 = (bI (decide (i < C.length))) ∧ M9 = M ∧ k9 = 0)) 0 0 (gA G) := by
  obtain ⟨cm, r, mc, ks, Ns, kb, vl, ky, lf, rt, pa, co, lo, hi, lr, h1, h2, h3, h4, h5, h6, h7, rfl, h9⟩ := hP_0
  have e : (decide (i < (Ns.map (fun a => (ky a, vl a))).length)) = (Ns[i]?).isSome := by rw [List.length_map]; by_cases h : i < Ns.length; simp [h]; simp [h]
  rw [e]
  exact met_TMi_hasNext0 l G M mp t0 cm r Ns.length mc ks it (Ns[i]?) lr h9
set_option maxHeartbeats 4000000 in
theorem met_TMap_next (l : Launch) (G : gG) (M : gM) (mp : Nat) (t0 : Nat × Nat) (t1 : Nat × Nat) (C : List (Int32 × Nat)) (i : Nat) (it : Nat) (e9 : Int32 × Nat) (he : C[i]? = some e9) (ht0 : t0.1 ≠ 0 ∧ t0.1 ≠ 9) (ht1 : t1.1 ≠ 0 ∧ t1.1 ≠ 9)  (hP_0 : isTI M G t0 t1 mp C i it) : Met l yJ41_next (ws_ yJ41_next cJ41_next 1 (some (.object "java/lang/Object"))) ({ frames := 2, cells := 0, slots := 0, locals := 43 }) (gPc G [.ref it] M) (gQq G (fun r9 M9 k9 => ∃ b9 : Nat, r9 = (some b9) ∧ isTI M9 G t0 t1 mp C (i + 1) it ∧ bxP M9 G b9 e9.1 ∧ gFr (gT (tgE 9 1)) M M9 ∧ k9 = 0)) 0 0 (gA G) := by
  obtain ⟨cm, r, mc, ks, Ns, kb, vl, ky, lf, rt, pa, co, lo, hi, lr, h1, h2, h3, h4, h5, h6, h7, rfl, h9⟩ := hP_0
  rw [List.getElem?_map] at he
  cases ha : Ns[i]? with
  | none => rw [ha] at he; cases he
  | some a =>
    rw [ha] at he
    cases Option.some.inj he
    have ham : a ∈ Ns := List.mem_of_getElem? ha
    have h9' := h9
    rw [ha] at h9'
    refine gMono_q (met_TMi_next0 l G M mp t0 cm r Ns.length mc ks t1 Ns kb vl lf rt pa co ky lo hi it a lr h6 h7 ham (fun q => ht1.2 q.1) h1 h9' h4) ?_
    intro r9 M9 k9 ⟨e1, q1, q2, q3⟩
    have hF : gFr (gT (tgE 9 1)) M M9 := q2.tg (fun b hb t e he => by cases List.mem_singleton.mp hb; rw [h9] at he; cases he; exact ⟨rfl, rfl⟩)
    have hG : gFr (gT (fun t => ¬ tg0 t)) M M9 := hF.mono (fun _ t q z => absurd (q.1.symm.trans z) (by decide))
    have hE : gFr (gT (fun t => ¬ tgE t1.1 t1.2 t)) M M9 := hF.mono (fun _ t q z => ht1.2 (z.1.symm.trans q.1))
    refine ⟨kb a, e1, ⟨cm, r, mc, ks, Ns, kb, vl, ky, lf, rt, pa, co, lo, hi, some a, hF _ _ _ h1 (fun q => ht0.2 q.1), hG _ _ _ h2 (fun z => z rfl), fun a ha => hG _ _ _ (h3 a ha) (fun z => z rfl), h4.fr hE, h5.fr hG, h6, h7, rfl, ?_⟩, (h5.fr hG) a ham, hF, q3⟩
    rw [q1, tmH_next h7 ha]; rfl
