/-! a node packed: isNd -/
set_option maxRecDepth 100000
abbrev NS := Nat × Option Nat × (Nat → Int32) × (Nat → Int32) × (Nat → Int32) × List pqE × List pqE × List (Int32 × Nat) × (Nat → Int32 × Int32)
abbrev NS.ph (x : NS) : Nat := x.1
abbrev NS.cu (x : NS) : Option Nat := x.2.1
abbrev NS.g (x : NS) : Nat → Int32 := x.2.2.1
abbrev NS.s (x : NS) : Nat → Int32 := x.2.2.2.1
abbrev NS.e (x : NS) : Nat → Int32 := x.2.2.2.2.1
abbrev NS.W (x : NS) : List pqE := x.2.2.2.2.2.1
abbrev NS.R (x : NS) : List pqE := x.2.2.2.2.2.2.1
abbrev NS.C (x : NS) : List (Int32 × Nat) := x.2.2.2.2.2.2.2.1
abbrev NS.ad (x : NS) : Nat → Int32 × Int32 := x.2.2.2.2.2.2.2.2
def isNd (M : gM) (G : gG) (ta k of nd : Nat) (x : NS) : Prop := ∃ sa wa rc an er wq : Nat, ∃ wm : Int32, ∃ rq rh : Nat,
  M nd = some ((ta, 16 * k), .inr (2, ndL G of x.ph x.cu sa wa rc an er x.g)) ∧ M sa = some ((ta, 16 * k + 1), .inr (4, smL G x.s)) ∧
  M wa = some ((ta, 16 * k + 2), .inr (20, [.ref wq, .int (nI x.W.length), .null, .int wm])) ∧ M wq = some ((ta, 16 * k + 3), .inl (gcs G 3, 4, .inr (.inr (.inr (.inr (pqA x.W)))))) ∧
  M rc = some ((ta, 16 * k + 4), .inr (22, [.ref rq, .int (nI rh), .int (nI ((rh + x.R.length) % 8))])) ∧ M rq = some ((ta, 16 * k + 5), .inl (gcs G 3, 8, .inr (.inr (.inr (.inr (dqA rh x.R)))))) ∧
  M er = some ((ta, 16 * k + 8), .inl (gcs G 0, 6, .inl x.e)) ∧ frs M x.W ∧ frs M x.R ∧ isTM M G (ta, 16 * k + 6) (ta, 16 * k + 7) an x.C ∧ aws M x.C x.ad ∧
  x.W.length ≤ 4 ∧ rh < 8 ∧ x.R.length ≤ 6
theorem gFr.nothing {M M' : gM} (h : gFr (gL []) M M') {P : Nat × Nat → Prop} : gFr (gT P) M M' := fun b t e hb hn => h b t e hb gno0
theorem gFr.one {M M' : gM} {a : Nat} {t c} (h : gFr (gL [a]) M M') (h1 : M a = some (t, c)) : gFr (gT (fun u => u = t)) M M' := fun b u e hb hn => h b u e hb (gno (gne_t hb h1 hn) gno0)
theorem gFr.two {M M' : gM} {a a' : Nat} {t t' c c'} (h : gFr (gL [a, a']) M M') (h1 : M a = some (t, c)) (h2 : M a' = some (t', c')) : gFr (gT (fun u => u = t ∨ u = t')) M M' := fun b u e hb hn => h b u e hb (gno (gne_t hb h1 (fun q => hn (Or.inl q))) (gno (gne_t hb h2 (fun q => hn (Or.inr q))) gno0))
theorem gFr.three {M M' : gM} {a a' a'' : Nat} {t t' t'' c c' c''} (h : gFr (gL [a, a', a'']) M M') (h1 : M a = some (t, c)) (h2 : M a' = some (t', c')) (h3 : M a'' = some (t'', c'')) : gFr (gT (fun u => u = t ∨ u = t' ∨ u = t'')) M M' := fun b u e hb hn => h b u e hb (gno (gne_t hb h1 (fun q => hn (Or.inl q))) (gno (gne_t hb h2 (fun q => hn (Or.inr (Or.inl q)))) (gno (gne_t hb h3 (fun q => hn (Or.inr (Or.inr q)))) gno0)))
theorem isNd.fr {M M' : gM} {G : gG} {ta k of nd : Nat} {x : NS} (h : isNd M G ta k of nd x) (hF : gFr (gT (fun t => ¬ (fun t => ndT ta k t ∨ tg0 t) t)) M M') : isNd M' G ta k of nd x := by
  obtain ⟨sa, wa, rc, an, er, wq, wm, rq, rh, h0, h1, h2, h3, h4, h5, h8, f1, f2, tm, aw, i1, i2, i3⟩ := h
  refine ⟨sa, wa, rc, an, er, wq, wm, rq, rh, hF _ _ _ h0 (fun q => q (Or.inl ⟨rfl, dv16z⟩)), hF _ _ _ h1 (fun q => q (Or.inl ⟨rfl, dv16 (by decide)⟩)), hF _ _ _ h2 (fun q => q (Or.inl ⟨rfl, dv16 (by decide)⟩)), hF _ _ _ h3 (fun q => q (Or.inl ⟨rfl, dv16 (by decide)⟩)), hF _ _ _ h4 (fun q => q (Or.inl ⟨rfl, dv16 (by decide)⟩)), hF _ _ _ h5 (fun q => q (Or.inl ⟨rfl, dv16 (by decide)⟩)), hF _ _ _ h8 (fun q => q (Or.inl ⟨rfl, dv16 (by decide)⟩)), f1.fr (hF.mono ?_), f2.fr (hF.mono ?_), tm.fr (hF.mono ?_), aw.fr (hF.mono ?_), i1, i2, i3⟩
  all_goals (intro b t h q; apply h; obtain ⟨u9, v9⟩ := t; simp only [ndT, tg0, tgE] at q ⊢; omega)
def nAct (x : NS) (sm pl ol rv : Int32) (ca y : Nat) : NS :=
  if x.ph = 1 then (cSilP x.g x.ph sm rv, x.cu, cSilG x.g sm rv, x.s, x.e, x.W, x.R, x.C, x.ad)
  else if x.ph = 2 then (cLisP x.g x.ph sm, x.cu, cLisG x.g sm, x.s, x.e, x.W, x.R, x.C, x.ad)
  else if x.ph = 3 then (cRdyP x.g x.ph sm pl ol, x.cu, cRdyG x.g sm pl ol, cRdyS x.s sm, cRdyE x.g x.e sm, x.W, x.R, x.C, x.ad)
  else if x.ph = 4 then (cBsyP x.g x.s x.ph sm pl ol, x.cu, cBsyG x.g x.s sm pl ol x.W x.R x.C, cBsyS x.g x.s sm, cBsyE x.g x.s x.e sm, cBsyW x.g x.s sm ca x.W x.C x.ad y, cBsyR x.g x.s sm x.R x.C y, x.C, x.ad)
  else if x.ph = 5 then (cFlagP x.g x.ph, x.cu, cFlagG x.g true, x.s, x.e, x.W, x.R, x.C, x.ad)
  else if x.ph = 6 then (cFlagP x.g x.ph, x.cu, cFlagG x.g false, x.s, x.e, x.W, x.R, x.C, x.ad)
  else if x.ph = 7 then (cDelP x.g x.ph sm pl ol, x.cu, cDelG x.g sm pl ol, x.s, cDelE x.g x.e sm, x.W, x.R, x.C, x.ad)
  else if x.ph = 8 then (cIntP x.g x.ph sm pl, x.cu, cIntG x.g sm pl, cIntS x.g x.s sm, x.e, x.W, x.R, x.C, x.ad)
  else if x.ph = 9 then (cSusP x.g x.ph sm, x.cu, cSusG x.g sm, cRdyS x.s sm, x.e, x.W, x.R, x.C, x.ad)
  else x
set_option maxHeartbeats 4000000 in
theorem met_N_act1 (l : Launch) (G : gG) (M : gM) (ta : Nat) (k : Nat) (of : Nat) (nd : Nat) (x : NS) (bn : Nat) (bd : Nat) (bh : Nat) (bt : Int32) (pl : Int32) (ol : Int32) (rv : Int32) (sm : Int32) (ca : Nat) (hta : 2 ≤ ta ∧ ta < 9) (hph : x.ph = 1) (hM_0 : M of = some ((ta, 100), .inr (1, [.ref bn, .ref bd, .ref bh, .int bt, .int pl, .int ol, .int rv]))) (hP_0 : isNd M G ta k of nd x) : Met l yX13_act (ws_ yX13_act cX13_act 3 none) ({ frames := 1, cells := 0, slots := 0, locals := 22 }) (gPc G [.ref (gph G 1), .ref nd, .int sm] M) (gQv G (fun M9 k9 => ∃ y : Nat, isNd M9 G ta k of nd (nAct x sm pl ol rv ca y) ∧ gFr (gT (ndT9 ta k)) M M9 ∧ k9 = 0)) 0 0 (gA G) := by
  obtain ⟨sa, wa, rc, an, er, wq, wm, rq, rh, h0, h1, h2, h3, h4, h5, h8, f1, f2, tm, aw, i1, i2, i3⟩ := hP_0
  refine gMono_v (met_Ph_act1 l G M nd (ta, 16 * k) of x.ph x.cu sa wa rc an er x.g (ta, 100) bn bd bh bt pl ol rv sm h0 hM_0) ?_
  intro M9 k9 ⟨q0, qF, qk⟩
  have hF : gFr (gT (fun u => u = (ta, 16 * k))) M M9 := qF.one h0
  have e9 : nAct x sm pl ol rv ca 0 = (cSilP x.g x.ph sm rv, x.cu, cSilG x.g sm rv, x.s, x.e, x.W, x.R, x.C, x.ad) := by simp (decide := true) only [nAct, hph, if_true, if_false]
  refine ⟨0, ?_, hF.mono ?_, by omega⟩
  · rw [e9]
    refine ⟨sa, wa, rc, an, er, wq, wm, rq, rh, q0, hF _ _ _ h1 (by simp [gT]), hF _ _ _ h2 (by simp [gT]), hF _ _ _ h3 (by simp [gT]), hF _ _ _ h4 (by simp [gT]), hF _ _ _ h5 (by simp [gT]), hF _ _ _ h8 (by simp [gT]), f1.fr (hF.mono ?_), f2.fr (hF.mono ?_), tm.fr (hF.mono ?_), aw.fr (hF.mono ?_), i1, i2, i3⟩
    all_goals (intro b t q; obtain ⟨u9, v9⟩ := t; simp only [gT, Prod.mk.injEq, tgE, tg0, ndT] at q ⊢; omega)
  · intro b t q; obtain ⟨u9, v9⟩ := t; simp only [gT, Prod.mk.injEq, ndT9] at q ⊢; omega
set_option maxHeartbeats 4000000 in
theorem met_N_act2 (l : Launch) (G : gG) (M : gM) (ta : Nat) (k : Nat) (of : Nat) (nd : Nat) (x : NS) (bn : Nat) (bd : Nat) (bh : Nat) (bt : Int32) (pl : Int32) (ol : Int32) (rv : Int32) (sm : Int32) (ca : Nat) (hta : 2 ≤ ta ∧ ta < 9) (hph : x.ph = 2) (hM_0 : M of = some ((ta, 100), .inr (1, [.ref bn, .ref bd, .ref bh, .int bt, .int pl, .int ol, .int rv]))) (hP_0 : isNd M G ta k of nd x) : Met l yX14_act (ws_ yX14_act cX14_act 3 none) ({ frames := 1, cells := 0, slots := 0, locals := 22 }) (gPc G [.ref (gph G 2), .ref nd, .int sm] M) (gQv G (fun M9 k9 => ∃ y : Nat, isNd M9 G ta k of nd (nAct x sm pl ol rv ca y) ∧ gFr (gT (ndT9 ta k)) M M9 ∧ k9 = 0)) 0 0 (gA G) := by
  obtain ⟨sa, wa, rc, an, er, wq, wm, rq, rh, h0, h1, h2, h3, h4, h5, h8, f1, f2, tm, aw, i1, i2, i3⟩ := hP_0
  refine gMono_v (met_Ph_act2 l G M nd (ta, 16 * k) of x.ph x.cu sa wa rc an er x.g sm h0) ?_
  intro M9 k9 ⟨q0, qF, qk⟩
  have hF : gFr (gT (fun u => u = (ta, 16 * k))) M M9 := qF.one h0
  have e9 : nAct x sm pl ol rv ca 0 = (cLisP x.g x.ph sm, x.cu, cLisG x.g sm, x.s, x.e, x.W, x.R, x.C, x.ad) := by simp (decide := true) only [nAct, hph, if_true, if_false]
  refine ⟨0, ?_, hF.mono ?_, by omega⟩
  · rw [e9]
    refine ⟨sa, wa, rc, an, er, wq, wm, rq, rh, q0, hF _ _ _ h1 (by simp [gT]), hF _ _ _ h2 (by simp [gT]), hF _ _ _ h3 (by simp [gT]), hF _ _ _ h4 (by simp [gT]), hF _ _ _ h5 (by simp [gT]), hF _ _ _ h8 (by simp [gT]), f1.fr (hF.mono ?_), f2.fr (hF.mono ?_), tm.fr (hF.mono ?_), aw.fr (hF.mono ?_), i1, i2, i3⟩
    all_goals (intro b t q; obtain ⟨u9, v9⟩ := t; simp only [gT, Prod.mk.injEq, tgE, tg0, ndT] at q ⊢; omega)
  · intro b t q; obtain ⟨u9, v9⟩ := t; simp only [gT, Prod.mk.injEq, ndT9] at q ⊢; omega
set_option maxHeartbeats 4000000 in
theorem met_N_act3 (l : Launch) (G : gG) (M : gM) (ta : Nat) (k : Nat) (of : Nat) (nd : Nat) (x : NS) (bn : Nat) (bd : Nat) (bh : Nat) (bt : Int32) (pl : Int32) (ol : Int32) (rv : Int32) (sm : Int32) (ca : Nat) (hta : 2 ≤ ta ∧ ta < 9) (hph : x.ph = 3) (hM_0 : M of = some ((ta, 100), .inr (1, [.ref bn, .ref bd, .ref bh, .int bt, .int pl, .int ol, .int rv]))) (hP_0 : isNd M G ta k of nd x) : Met l yX21_act (ws_ yX21_act cX21_act 3 none) ({ frames := 4, cells := 1, slots := 2, locals := 73 }) (gPc G [.ref (gph G 3), .ref nd, .int sm] M) (gQv G (fun M9 k9 => ∃ y : Nat, isNd M9 G ta k of nd (nAct x sm pl ol rv ca y) ∧ gFr (gT (ndT9 ta k)) M M9 ∧ k9 ≤ 1)) 1 2 (gA G) := by
  obtain ⟨sa, wa, rc, an, er, wq, wm, rq, rh, h0, h1, h2, h3, h4, h5, h8, f1, f2, tm, aw, i1, i2, i3⟩ := hP_0
  refine gMono_v (met_Ph_act3 l G M nd (ta, 16 * k) of x.ph x.cu sa wa rc an er x.g (ta, 100) bn bd bh bt pl ol rv (ta, 16 * k + 8) x.e (ta, 16 * k + 1) x.s sm h0 hM_0 h8 h1) ?_
  intro M9 k9 ⟨q0, q1, q2, qF, qk⟩
  have hF : gFr (gT (fun u => u = (ta, 16 * k) ∨ u = (ta, 16 * k + 8) ∨ u = (ta, 16 * k + 1))) M M9 := qF.three h0 h8 h1
  have e9 : nAct x sm pl ol rv ca 0 = (cRdyP x.g x.ph sm pl ol, x.cu, cRdyG x.g sm pl ol, cRdyS x.s sm, cRdyE x.g x.e sm, x.W, x.R, x.C, x.ad) := by simp (decide := true) only [nAct, hph, if_true, if_false]
  refine ⟨0, ?_, hF.mono ?_, by omega⟩
  · rw [e9]
    refine ⟨sa, wa, rc, an, er, wq, wm, rq, rh, q0, q2, hF _ _ _ h2 (by simp [gT]), hF _ _ _ h3 (by simp [gT]), hF _ _ _ h4 (by simp [gT]), hF _ _ _ h5 (by simp [gT]), q1, f1.fr (hF.mono ?_), f2.fr (hF.mono ?_), tm.fr (hF.mono ?_), aw.fr (hF.mono ?_), i1, i2, i3⟩
    all_goals (intro b t q; obtain ⟨u9, v9⟩ := t; simp only [gT, Prod.mk.injEq, tgE, tg0, ndT] at q ⊢; omega)
  · intro b t q; obtain ⟨u9, v9⟩ := t; simp only [gT, Prod.mk.injEq, ndT9] at q ⊢; omega
set_option maxHeartbeats 4000000 in
theorem met_N_act5 (l : Launch) (G : gG) (M : gM) (ta : Nat) (k : Nat) (of : Nat) (nd : Nat) (x : NS) (bn : Nat) (bd : Nat) (bh : Nat) (bt : Int32) (pl : Int32) (ol : Int32) (rv : Int32) (sm : Int32) (ca : Nat) (hta : 2 ≤ ta ∧ ta < 9) (hph : x.ph = 5) (hM_0 : M of = some ((ta, 100), .inr (1, [.ref bn, .ref bd, .ref bh, .int bt, .int pl, .int ol, .int rv]))) (hP_0 : isNd M G ta k of nd x) : Met l yX22_act (ws_ yX22_act cX22_act 3 none) ({ frames := 2, cells := 0, slots := 0, locals := 42 }) (gPc G [.ref (gph G 5), .ref nd, .int sm] M) (gQv G (fun M9 k9 => ∃ y : Nat, isNd M9 G ta k of nd (nAct x sm pl ol rv ca y) ∧ gFr (gT (ndT9 ta k)) M M9 ∧ k9 = 0)) 0 0 (gA G) := by
  obtain ⟨sa, wa, rc, an, er, wq, wm, rq, rh, h0, h1, h2, h3, h4, h5, h8, f1, f2, tm, aw, i1, i2, i3⟩ := hP_0
  refine gMono_v (met_Ph_act5 l G M nd (ta, 16 * k) of x.ph x.cu sa wa rc an er x.g sm h0) ?_
  intro M9 k9 ⟨q0, qF, qk⟩
  have hF : gFr (gT (fun u => u = (ta, 16 * k))) M M9 := qF.one h0
  have e9 : nAct x sm pl ol rv ca 0 = (cFlagP x.g x.ph, x.cu, cFlagG x.g true, x.s, x.e, x.W, x.R, x.C, x.ad) := by simp (decide := true) only [nAct, hph, if_true, if_false]
  refine ⟨0, ?_, hF.mono ?_, by omega⟩
  · rw [e9]
    refine ⟨sa, wa, rc, an, er, wq, wm, rq, rh, q0, hF _ _ _ h1 (by simp [gT]), hF _ _ _ h2 (by simp [gT]), hF _ _ _ h3 (by simp [gT]), hF _ _ _ h4 (by simp [gT]), hF _ _ _ h5 (by simp [gT]), hF _ _ _ h8 (by simp [gT]), f1.fr (hF.mono ?_), f2.fr (hF.mono ?_), tm.fr (hF.mono ?_), aw.fr (hF.mono ?_), i1, i2, i3⟩
    all_goals (intro b t q; obtain ⟨u9, v9⟩ := t; simp only [gT, Prod.mk.injEq, tgE, tg0, ndT] at q ⊢; omega)
  · intro b t q; obtain ⟨u9, v9⟩ := t; simp only [gT, Prod.mk.injEq, ndT9] at q ⊢; omega
set_option maxHeartbeats 4000000 in
theorem met_N_act6 (l : Launch) (G : gG) (M : gM) (ta : Nat) (k : Nat) (of : Nat) (nd : Nat) (x : NS) (bn : Nat) (bd : Nat) (bh : Nat) (bt : Int32) (pl : Int32) (ol : Int32) (rv : Int32) (sm : Int32) (ca : Nat) (hta : 2 ≤ ta ∧ ta < 9) (hph : x.ph = 6) (hM_0 : M of = some ((ta, 100), .inr (1, [.ref bn, .ref bd, .ref bh, .int bt, .int pl, .int ol, .int rv]))) (hP_0 : isNd M G ta k of nd x) : Met l yX25_act (ws_ yX25_act cX25_act 3 none) ({ frames := 2, cells := 0, slots := 0, locals := 42 }) (gPc G [.ref (gph G 6), .ref nd, .int sm] M) (gQv G (fun M9 k9 => ∃ y : Nat, isNd M9 G ta k of nd (nAct x sm pl ol rv ca y) ∧ gFr (gT (ndT9 ta k)) M M9 ∧ k9 = 0)) 0 0 (gA G) := by
  obtain ⟨sa, wa, rc, an, er, wq, wm, rq, rh, h0, h1, h2, h3, h4, h5, h8, f1, f2, tm, aw, i1, i2, i3⟩ := hP_0
  refine gMono_v (met_Ph_act6 l G M nd (ta, 16 * k) of x.ph x.cu sa wa rc an er x.g sm h0) ?_
  intro M9 k9 ⟨q0, qF, qk⟩
  have hF : gFr (gT (fun u => u = (ta, 16 * k))) M M9 := qF.one h0
  have e9 : nAct x sm pl ol rv ca 0 = (cFlagP x.g x.ph, x.cu, cFlagG x.g false, x.s, x.e, x.W, x.R, x.C, x.ad) := by simp (decide := true) only [nAct, hph, if_true, if_false]
  refine ⟨0, ?_, hF.mono ?_, by omega⟩
  · rw [e9]
    refine ⟨sa, wa, rc, an, er, wq, wm, rq, rh, q0, hF _ _ _ h1 (by simp [gT]), hF _ _ _ h2 (by simp [gT]), hF _ _ _ h3 (by simp [gT]), hF _ _ _ h4 (by simp [gT]), hF _ _ _ h5 (by simp [gT]), hF _ _ _ h8 (by simp [gT]), f1.fr (hF.mono ?_), f2.fr (hF.mono ?_), tm.fr (hF.mono ?_), aw.fr (hF.mono ?_), i1, i2, i3⟩
    all_goals (intro b t q; obtain ⟨u9, v9⟩ := t; simp only [gT, Prod.mk.injEq, tgE, tg0, ndT] at q ⊢; omega)
  · intro b t q; obtain ⟨u9, v9⟩ := t; simp only [gT, Prod.mk.injEq, ndT9] at q ⊢; omega
set_option maxHeartbeats 4000000 in
theorem met_N_act7 (l : Launch) (G : gG) (M : gM) (ta : Nat) (k : Nat) (of : Nat) (nd : Nat) (x : NS) (bn : Nat) (bd : Nat) (bh : Nat) (bt : Int32) (pl : Int32) (ol : Int32) (rv : Int32) (sm : Int32) (ca : Nat) (hta : 2 ≤ ta ∧ ta < 9) (hph : x.ph = 7) (hM_0 : M of = some ((ta, 100), .inr (1, [.ref bn, .ref bd, .ref bh, .int bt, .int pl, .int ol, .int rv]))) (hP_0 : isNd M G ta k of nd x) : Met l yX26_act (ws_ yX26_act cX26_act 3 none) ({ frames := 4, cells := 0, slots := 0, locals := 78 }) (gPc G [.ref (gph G 7), .ref nd, .int sm] M) (gQv G (fun M9 k9 => ∃ y : Nat, isNd M9 G ta k of nd (nAct x sm pl ol rv ca y) ∧ gFr (gT (ndT9 ta k)) M M9 ∧ k9 = 0)) 0 0 (gA G) := by
  obtain ⟨sa, wa, rc, an, er, wq, wm, rq, rh, h0, h1, h2, h3, h4, h5, h8, f1, f2, tm, aw, i1, i2, i3⟩ := hP_0
  refine gMono_v (met_Ph_act7 l G M nd (ta, 16 * k) of x.ph x.cu sa wa rc an er x.g (ta, 100) bn bd bh bt pl ol rv (ta, 16 * k + 8) x.e sm h0 hM_0 h8) ?_
  intro M9 k9 ⟨q0, q1, qF, qk⟩
  have hF : gFr (gT (fun u => u = (ta, 16 * k) ∨ u = (ta, 16 * k + 8))) M M9 := qF.two h0 h8
  have e9 : nAct x sm pl ol rv ca 0 = (cDelP x.g x.ph sm pl ol, x.cu, cDelG x.g sm pl ol, x.s, cDelE x.g x.e sm, x.W, x.R, x.C, x.ad) := by simp (decide := true) only [nAct, hph, if_true, if_false]
  refine ⟨0, ?_, hF.mono ?_, by omega⟩
  · rw [e9]
    refine ⟨sa, wa, rc, an, er, wq, wm, rq, rh, q0, hF _ _ _ h1 (by simp [gT]), hF _ _ _ h2 (by simp [gT]), hF _ _ _ h3 (by simp [gT]), hF _ _ _ h4 (by simp [gT]), hF _ _ _ h5 (by simp [gT]), q1, f1.fr (hF.mono ?_), f2.fr (hF.mono ?_), tm.fr (hF.mono ?_), aw.fr (hF.mono ?_), i1, i2, i3⟩
    all_goals (intro b t q; obtain ⟨u9, v9⟩ := t; simp only [gT, Prod.mk.injEq, tgE, tg0, ndT] at q ⊢; omega)
  · intro b t q; obtain ⟨u9, v9⟩ := t; simp only [gT, Prod.mk.injEq, ndT9] at q ⊢; omega
set_option maxHeartbeats 4000000 in
theorem met_N_act8 (l : Launch) (G : gG) (M : gM) (ta : Nat) (k : Nat) (of : Nat) (nd : Nat) (x : NS) (bn : Nat) (bd : Nat) (bh : Nat) (bt : Int32) (pl : Int32) (ol : Int32) (rv : Int32) (sm : Int32) (ca : Nat) (hta : 2 ≤ ta ∧ ta < 9) (hph : x.ph = 8) (hM_0 : M of = some ((ta, 100), .inr (1, [.ref bn, .ref bd, .ref bh, .int bt, .int pl, .int ol, .int rv]))) (hP_0 : isNd M G ta k of nd x) : Met l yX27_act (ws_ yX27_act cX27_act 3 none) ({ frames := 5, cells := 1, slots := 2, locals := 94 }) (gPc G [.ref (gph G 8), .ref nd, .int sm] M) (gQv G (fun M9 k9 => ∃ y : Nat, isNd M9 G ta k of nd (nAct x sm pl ol rv ca y) ∧ gFr (gT (ndT9 ta k)) M M9 ∧ k9 ≤ 1)) 1 2 (gA G) := by
  obtain ⟨sa, wa, rc, an, er, wq, wm, rq, rh, h0, h1, h2, h3, h4, h5, h8, f1, f2, tm, aw, i1, i2, i3⟩ := hP_0
  refine gMono_v (met_Ph_act8 l G M nd (ta, 16 * k) of x.ph x.cu sa wa rc an er x.g (ta, 100) bn bd bh bt pl ol rv (ta, 16 * k + 1) x.s sm h0 hM_0 h1) ?_
  intro M9 k9 ⟨q0, q1, qF, qk⟩
  have hF : gFr (gT (fun u => u = (ta, 16 * k) ∨ u = (ta, 16 * k + 1))) M M9 := qF.two h0 h1
  have e9 : nAct x sm pl ol rv ca 0 = (cIntP x.g x.ph sm pl, x.cu, cIntG x.g sm pl, cIntS x.g x.s sm, x.e, x.W, x.R, x.C, x.ad) := by simp (decide := true) only [nAct, hph, if_true, if_false]
  refine ⟨0, ?_, hF.mono ?_, by omega⟩
  · rw [e9]
    refine ⟨sa, wa, rc, an, er, wq, wm, rq, rh, q0, q1, hF _ _ _ h2 (by simp [gT]), hF _ _ _ h3 (by simp [gT]), hF _ _ _ h4 (by simp [gT]), hF _ _ _ h5 (by simp [gT]), hF _ _ _ h8 (by simp [gT]), f1.fr (hF.mono ?_), f2.fr (hF.mono ?_), tm.fr (hF.mono ?_), aw.fr (hF.mono ?_), i1, i2, i3⟩
    all_goals (intro b t q; obtain ⟨u9, v9⟩ := t; simp only [gT, Prod.mk.injEq, tgE, tg0, ndT] at q ⊢; omega)
  · intro b t q; obtain ⟨u9, v9⟩ := t; simp only [gT, Prod.mk.injEq, ndT9] at q ⊢; omega
set_option maxHeartbeats 4000000 in
theorem met_N_act9 (l : Launch) (G : gG) (M : gM) (ta : Nat) (k : Nat) (of : Nat) (nd : Nat) (x : NS) (bn : Nat) (bd : Nat) (bh : Nat) (bt : Int32) (pl : Int32) (ol : Int32) (rv : Int32) (sm : Int32) (ca : Nat) (hta : 2 ≤ ta ∧ ta < 9) (hph : x.ph = 9) (hM_0 : M of = some ((ta, 100), .inr (1, [.ref bn, .ref bd, .ref bh, .int bt, .int pl, .int ol, .int rv]))) (hP_0 : isNd M G ta k of nd x) : Met l yX12_act (ws_ yX12_act cX12_act 3 none) ({ frames := 4, cells := 1, slots := 2, locals := 73 }) (gPc G [.ref (gph G 9), .ref nd, .int sm] M) (gQv G (fun M9 k9 => ∃ y : Nat, isNd M9 G ta k of nd (nAct x sm pl ol rv ca y) ∧ gFr (gT (ndT9 ta k)) M M9 ∧ k9 ≤ 1)) 1 2 (gA G) := by
  obtain ⟨sa, wa, rc, an, er, wq, wm, rq, rh, h0, h1, h2, h3, h4, h5, h8, f1, f2, tm, aw, i1, i2, i3⟩ := hP_0
  refine gMono_v (met_Ph_act9 l G M nd (ta, 16 * k) of x.ph x.cu sa wa rc an er x.g (ta, 16 * k + 1) x.s sm h0 h1) ?_
  intro M9 k9 ⟨q0, q1, qF, qk⟩
  have hF : gFr (gT (fun u => u = (ta, 16 * k) ∨ u = (ta, 16 * k + 1))) M M9 := qF.two h0 h1
  have e9 : nAct x sm pl ol rv ca 0 = (cSusP x.g x.ph sm, x.cu, cSusG x.g sm, cRdyS x.s sm, x.e, x.W, x.R, x.C, x.ad) := by simp (decide := true) only [nAct, hph, if_true, if_false]
  refine ⟨0, ?_, hF.mono ?_, by omega⟩
  · rw [e9]
    refine ⟨sa, wa, rc, an, er, wq, wm, rq, rh, q0, q1, hF _ _ _ h2 (by simp [gT]), hF _ _ _ h3 (by simp [gT]), hF _ _ _ h4 (by simp [gT]), hF _ _ _ h5 (by simp [gT]), hF _ _ _ h8 (by simp [gT]), f1.fr (hF.mono ?_), f2.fr (hF.mono ?_), tm.fr (hF.mono ?_), aw.fr (hF.mono ?_), i1, i2, i3⟩
    all_goals (intro b t q; obtain ⟨u9, v9⟩ := t; simp only [gT, Prod.mk.injEq, tgE, tg0, ndT] at q ⊢; omega)
  · intro b t q; obtain ⟨u9, v9⟩ := t; simp only [gT, Prod.mk.injEq, ndT9] at q ⊢; omega
set_option maxHeartbeats 4000000 in
theorem met_N_act0 (l : Launch) (G : gG) (M : gM) (ta : Nat) (k : Nat) (of : Nat) (nd : Nat) (x : NS) (bn : Nat) (bd : Nat) (bh : Nat) (bt : Int32) (pl : Int32) (ol : Int32) (rv : Int32) (sm : Int32) (ca : Nat) (hta : 2 ≤ ta ∧ ta < 9) (hph : x.ph = 0) (hM_0 : M of = some ((ta, 100), .inr (1, [.ref bn, .ref bd, .ref bh, .int bt, .int pl, .int ol, .int rv]))) (hP_0 : isNd M G ta k of nd x) : Met l yX24_act (ws_ yX24_act cX24_act 3 none) ({ frames := 0, cells := 0, slots := 0, locals := 0 }) (gPc G [.ref (gph G 0), .ref nd, .int sm] M) (gQv G (fun M9 k9 => ∃ y : Nat, isNd M9 G ta k of nd (nAct x sm pl ol rv ca y) ∧ gFr (gT (ndT9 ta k)) M M9 ∧ k9 = 0)) 0 0 (gA G) := by
  refine gMono_v (met_Ph_act0 l G M nd sm) ?_
  intro M9 k9 ⟨qF, qk⟩
  have e9 : nAct x sm pl ol rv ca 0 = x := by simp (decide := true) only [nAct, hph, if_true, if_false]
  exact ⟨0, by rw [e9]; exact hP_0.fr qF.nothing, qF.nothing, by omega⟩
theorem pqFilt_len {P : pqE → Bool} {W : List pqE} : ∀ {A : List pqE}, A.length + W.length ≤ 4 → (pqFilt P A W).length ≤ A.length + W.length := by
  induction W with
  | nil => intro A h; exact Nat.le_refl _
  | cons e W ih =>
    intro A h
    simp only [List.length_cons] at h ⊢
    simp only [pqFilt]
    by_cases q : P e = true
    · rw [if_pos q]
      have := pqAdd_len (L := A) (x := e) (by omega)
      have := ih (A := pqAdd A e) (by omega)
      omega
    · rw [if_neg q]
      have := ih (A := A) (by omega)
      omega
theorem cBsyW_len {g s : Nat → Int32} {sm : Int32} {ca : Nat} {W : List pqE} {C : List (Int32 × Nat)} {ad : Nat → Int32 × Int32} {y : Nat} (h : W.length ≤ 4) : (cBsyW g s sm ca W C ad y).length ≤ 4 := by
  simp only [cBsyW, cTlW, cFinW, cAccW]
  have h1 := pqFilt_len (P := fun e => decide (¬ e.1 = ca)) (W := W) (A := []) (by simpa using h)
  simp only [List.length_nil, Nat.zero_add] at h1
  repeat' split
  all_goals first
    | omega
    | (rw [pqAdd_len (by assumption)]; omega)
theorem cBsyR_len {g s : Nat → Int32} {sm : Int32} {R : List pqE} {C : List (Int32 × Nat)} {y : Nat} (h : R.length ≤ 6) : (cBsyR g s sm R C y).length ≤ 6 := by
  simp only [cBsyR, cTlR, cAccR]
  repeat' split
  all_goals first
    | omega
    | (simp only [List.length_append, List.length_cons, List.length_nil]; omega)
set_option maxHeartbeats 4000000 in
theorem met_N_act4 (l : Launch) (G : gG) (M : gM) (ta : Nat) (k : Nat) (of : Nat) (nd : Nat) (x : NS) (bn : Nat) (bd : Nat) (bh : Nat) (bt : Int32) (pl : Int32) (ol : Int32) (rv : Int32) (sm : Int32) (ca : Nat) (hta : 2 ≤ ta ∧ ta < 9) (hph : x.ph = 4) (hs4 : x.s 4 = 0 ∨ x.s 4 = 1) (hcu : ¬ x.g 2 = 0 → x.cu = some ca) (hM_0 : M of = some ((ta, 100), .inr (1, [.ref bn, .ref bd, .ref bh, .int bt, .int pl, .int ol, .int rv]))) (hP_0 : isNd M G ta k of nd x) : Met l yX23_act (ws_ yX23_act cX23_act 3 none) ({ frames := 10, cells := 3, slots := 14, locals := 253 }) (gPc G [.ref (gph G 4), .ref nd, .int sm] M) (gQv G (fun M9 k9 => ∃ y : Nat, isNd M9 G ta k of nd (nAct x sm pl ol rv ca y) ∧ gFr (gT (ndT9 ta k)) M M9 ∧ (∀ e ∈ x.W, e.1 ≠ y) ∧ k9 + crd (cBsyP x.g x.s x.ph sm pl ol) ≤ 3 ∧ k9 ≤ 3)) 3 14 (gA G) := by
  obtain ⟨sa, wa, rc, an, er, wq, wm, rq, rh, h0, h1, h2, h3, h4, h5, h8, f1, f2, tm, aw, i1, i2, i3⟩ := hP_0
  refine gMono_v (met_Ph_act4 l G M nd of x.ph x.cu sa wa rc an er x.g ta k bn bd bh bt pl ol rv x.s wq wm x.W rq rh x.R x.C x.ad x.e ca sm hta i1 i2 i3 hs4 hcu h0 hM_0 h1 h2 h3 h4 h5 h8 f1 f2 tm aw) ?_
  intro M9 k9 ⟨na, nq, m9, y, q0, q1, q2, q3, q4, q5, q8, p1, p2, p3, qF, qn, qr, qk⟩
  have e9 : nAct x sm pl ol rv ca y = (cBsyP x.g x.s x.ph sm pl ol, x.cu, cBsyG x.g x.s sm pl ol x.W x.R x.C, cBsyS x.g x.s sm, cBsyE x.g x.s x.e sm, cBsyW x.g x.s sm ca x.W x.C x.ad y, cBsyR x.g x.s sm x.R x.C y, x.C, x.ad) := by simp (decide := true) only [nAct, hph, if_true, if_false]
  refine ⟨y, ?_, qF, qn, qr, qk⟩
  rw [e9]
  refine ⟨sa, na, rc, an, er, nq, m9, rq, rh, q0, q1, q2, q3, q4, q5, q8, p1, p2, p3, aw.fr (qF.mono ?_), cBsyW_len i1, i2, cBsyR_len i3⟩
  intro b t q; obtain ⟨u9, v9⟩ := t; simp only [gT, ndT9, tgE] at q ⊢; omega
