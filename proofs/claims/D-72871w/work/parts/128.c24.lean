/-! packed nodes: drive -/
set_option maxRecDepth 100000
def nDrv (x : NS) (d : frD) (pn ln : Nat) : Int32 := if x.ph = 3 then cRdyD x.W else if x.ph = 4 then (if x.g 2 = 0 then cDrvR x.s else cDrvT x.s pn d.1 d.2.1 ln d.2.2.2.1) else if x.ph = 5 then cActO x.g else if x.ph = 6 then 0 else 1
def nDrvX (x : NS) : NS := if x.ph = 3 then (x.ph, x.W.head?.map Prod.fst, x.g, x.s, x.e, x.W, x.R, x.C, x.ad) else x
abbrev nCur (x : NS) (ca : Nat) (d : frD) (pn ln : Nat) : Prop := x.ph = 4 → ¬ x.g 2 = 0 → x.cu = some ca ∧ (ca, d) ∈ x.W ∧ d.2.2.1 = nI ln ∧ ln ≤ 4 ∧ x.s 2 = nI pn ∧ pn ≤ 70
set_option maxHeartbeats 4000000 in
theorem met_N_drive5 (l : Launch) (G : gG) (M : gM) (ta : Nat) (k : Nat) (of : Nat) (nd : Nat) (x : NS) (ca : Nat) (d : frD) (pn : Nat) (ln : Nat) (hta : 2 ≤ ta ∧ ta < 9) (hph : x.ph = 5) (hcur : nCur x ca d pn ln)  (hP_0 : isNd M G ta k of nd x) : Met l yX22_drive (ws_ yX22_drive cX22_drive 2 (some .int)) ({ frames := 0, cells := 0, slots := 0, locals := 0 }) (gPc G [.ref (gph G 5), .ref nd] M) (gQi G (fun r9 M9 k9 => r9 = (nDrv x d pn ln) ∧ isNd M9 G ta k of nd (nDrvX x) ∧ gFr (gT (ndT9 ta k)) M M9 ∧ k9 = 0)) 0 0 (gA G) := by
  have hnd := hP_0
  obtain ⟨sa, wa, rc, an, er, wq, wm, rq, rh, h0, h1, h2, h3, h4, h5, h8, f1, f2, tm, aw, i1, i2, i3⟩ := hP_0
  have e1 : nDrv x d pn ln = cActO x.g := by simp (decide := true) only [nDrv, hph, if_true, if_false]
  have e2 : nDrvX x = x := by simp (decide := true) only [nDrvX, hph, if_true, if_false]
  rw [e1, e2]
  refine gMono_i (met_Ph_drive5 l G M nd (ta, 16 * k) of x.ph x.cu sa wa rc an er x.g h0) ?_
  intro r9 M9 k9 ⟨q1, q2, q3⟩
  subst q2
  exact ⟨q1, hnd, gFr.refl, q3⟩
set_option maxHeartbeats 4000000 in
theorem met_N_drive6 (l : Launch) (G : gG) (M : gM) (ta : Nat) (k : Nat) (of : Nat) (nd : Nat) (x : NS) (ca : Nat) (d : frD) (pn : Nat) (ln : Nat) (hta : 2 ≤ ta ∧ ta < 9) (hph : x.ph = 6) (hcur : nCur x ca d pn ln)  (hP_0 : isNd M G ta k of nd x) : Met l yX25_drive (ws_ yX25_drive cX25_drive 2 (some .int)) ({ frames := 0, cells := 0, slots := 0, locals := 0 }) (gPc G [.ref (gph G 6), .ref nd] M) (gQi G (fun r9 M9 k9 => r9 = (nDrv x d pn ln) ∧ isNd M9 G ta k of nd (nDrvX x) ∧ gFr (gT (ndT9 ta k)) M M9 ∧ k9 = 0)) 0 0 (gA G) := by
  have hnd := hP_0
  obtain ⟨sa, wa, rc, an, er, wq, wm, rq, rh, h0, h1, h2, h3, h4, h5, h8, f1, f2, tm, aw, i1, i2, i3⟩ := hP_0
  have e1 : nDrv x d pn ln = 0 := by simp (decide := true) only [nDrv, hph, if_true, if_false]
  have e2 : nDrvX x = x := by simp (decide := true) only [nDrvX, hph, if_true, if_false]
  rw [e1, e2]
  refine gMono_i (met_Ph_drive6 l G M nd) ?_
  intro r9 M9 k9 ⟨q1, q2, q3⟩
  subst q2
  exact ⟨q1, hnd, gFr.refl, q3⟩
set_option maxHeartbeats 4000000 in
theorem met_N_drive0 (l : Launch) (G : gG) (M : gM) (ta : Nat) (k : Nat) (of : Nat) (nd : Nat) (x : NS) (ca : Nat) (d : frD) (pn : Nat) (ln : Nat) (hta : 2 ≤ ta ∧ ta < 9) (hph : x.ph = 0) (hcur : nCur x ca d pn ln)  (hP_0 : isNd M G ta k of nd x) : Met l yX3_drive (ws_ yX3_drive cX3_drive 2 (some .int)) ({ frames := 0, cells := 0, slots := 0, locals := 0 }) (gPc G [.ref (gph G 0), .ref nd] M) (gQi G (fun r9 M9 k9 => r9 = (nDrv x d pn ln) ∧ isNd M9 G ta k of nd (nDrvX x) ∧ gFr (gT (ndT9 ta k)) M M9 ∧ k9 = 0)) 0 0 (gA G) := by
  have hnd := hP_0
  obtain ⟨sa, wa, rc, an, er, wq, wm, rq, rh, h0, h1, h2, h3, h4, h5, h8, f1, f2, tm, aw, i1, i2, i3⟩ := hP_0
  have e1 : nDrv x d pn ln = 1 := by simp (decide := true) only [nDrv, hph, if_true, if_false]
  have e2 : nDrvX x = x := by simp (decide := true) only [nDrvX, hph, if_true, if_false]
  rw [e1, e2]
  refine gMono_i (met_Ph_drive l G M 0 nd) ?_
  intro r9 M9 k9 ⟨q1, q2, q3⟩
  subst q2
  exact ⟨q1, hnd, gFr.refl, q3⟩
set_option maxHeartbeats 4000000 in
theorem met_N_drive1 (l : Launch) (G : gG) (M : gM) (ta : Nat) (k : Nat) (of : Nat) (nd : Nat) (x : NS) (ca : Nat) (d : frD) (pn : Nat) (ln : Nat) (hta : 2 ≤ ta ∧ ta < 9) (hph : x.ph = 1) (hcur : nCur x ca d pn ln)  (hP_0 : isNd M G ta k of nd x) : Met l yX3_drive (ws_ yX3_drive cX3_drive 2 (some .int)) ({ frames := 0, cells := 0, slots := 0, locals := 0 }) (gPc G [.ref (gph G 1), .ref nd] M) (gQi G (fun r9 M9 k9 => r9 = (nDrv x d pn ln) ∧ isNd M9 G ta k of nd (nDrvX x) ∧ gFr (gT (ndT9 ta k)) M M9 ∧ k9 = 0)) 0 0 (gA G) := by
  have hnd := hP_0
  obtain ⟨sa, wa, rc, an, er, wq, wm, rq, rh, h0, h1, h2, h3, h4, h5, h8, f1, f2, tm, aw, i1, i2, i3⟩ := hP_0
  have e1 : nDrv x d pn ln = 1 := by simp (decide := true) only [nDrv, hph, if_true, if_false]
  have e2 : nDrvX x = x := by simp (decide := true) only [nDrvX, hph, if_true, if_false]
  rw [e1, e2]
  refine gMono_i (met_Ph_drive l G M 1 nd) ?_
  intro r9 M9 k9 ⟨q1, q2, q3⟩
  subst q2
  exact ⟨q1, hnd, gFr.refl, q3⟩
set_option maxHeartbeats 4000000 in
theorem met_N_drive2 (l : Launch) (G : gG) (M : gM) (ta : Nat) (k : Nat) (of : Nat) (nd : Nat) (x : NS) (ca : Nat) (d : frD) (pn : Nat) (ln : Nat) (hta : 2 ≤ ta ∧ ta < 9) (hph : x.ph = 2) (hcur : nCur x ca d pn ln)  (hP_0 : isNd M G ta k of nd x) : Met l yX3_drive (ws_ yX3_drive cX3_drive 2 (some .int)) ({ frames := 0, cells := 0, slots := 0, locals := 0 }) (gPc G [.ref (gph G 2), .ref nd] M) (gQi G (fun r9 M9 k9 => r9 = (nDrv x d pn ln) ∧ isNd M9 G ta k of nd (nDrvX x) ∧ gFr (gT (ndT9 ta k)) M M9 ∧ k9 = 0)) 0 0 (gA G) := by
  have hnd := hP_0
  obtain ⟨sa, wa, rc, an, er, wq, wm, rq, rh, h0, h1, h2, h3, h4, h5, h8, f1, f2, tm, aw, i1, i2, i3⟩ := hP_0
  have e1 : nDrv x d pn ln = 1 := by simp (decide := true) only [nDrv, hph, if_true, if_false]
  have e2 : nDrvX x = x := by simp (decide := true) only [nDrvX, hph, if_true, if_false]
  rw [e1, e2]
  refine gMono_i (met_Ph_drive l G M 2 nd) ?_
  intro r9 M9 k9 ⟨q1, q2, q3⟩
  subst q2
  exact ⟨q1, hnd, gFr.refl, q3⟩
set_option maxHeartbeats 4000000 in
theorem met_N_drive7 (l : Launch) (G : gG) (M : gM) (ta : Nat) (k : Nat) (of : Nat) (nd : Nat) (x : NS) (ca : Nat) (d : frD) (pn : Nat) (ln : Nat) (hta : 2 ≤ ta ∧ ta < 9) (hph : x.ph = 7) (hcur : nCur x ca d pn ln)  (hP_0 : isNd M G ta k of nd x) : Met l yX3_drive (ws_ yX3_drive cX3_drive 2 (some .int)) ({ frames := 0, cells := 0, slots := 0, locals := 0 }) (gPc G [.ref (gph G 7), .ref nd] M) (gQi G (fun r9 M9 k9 => r9 = (nDrv x d pn ln) ∧ isNd M9 G ta k of nd (nDrvX x) ∧ gFr (gT (ndT9 ta k)) M M9 ∧ k9 = 0)) 0 0 (gA G) := by
  have hnd := hP_0
  obtain ⟨sa, wa, rc, an, er, wq, wm, rq, rh, h0, h1, h2, h3, h4, h5, h8, f1, f2, tm, aw, i1, i2, i3⟩ := hP_0
  have e1 : nDrv x d pn ln = 1 := by simp (decide := true) only [nDrv, hph, if_true, if_false]
  have e2 : nDrvX x = x := by simp (decide := true) only [nDrvX, hph, if_true, if_false]
  rw [e1, e2]
  refine gMono_i (met_Ph_drive l G M 7 nd) ?_
  intro r9 M9 k9 ⟨q1, q2, q3⟩
  subst q2
  exact ⟨q1, hnd, gFr.refl, q3⟩
set_option maxHeartbeats 4000000 in
theorem met_N_drive8 (l : Launch) (G : gG) (M : gM) (ta : Nat) (k : Nat) (of : Nat) (nd : Nat) (x : NS) (ca : Nat) (d : frD) (pn : Nat) (ln : Nat) (hta : 2 ≤ ta ∧ ta < 9) (hph : x.ph = 8) (hcur : nCur x ca d pn ln)  (hP_0 : isNd M G ta k of nd x) : Met l yX3_drive (ws_ yX3_drive cX3_drive 2 (some .int)) ({ frames := 0, cells := 0, slots := 0, locals := 0 }) (gPc G [.ref (gph G 8), .ref nd] M) (gQi G (fun r9 M9 k9 => r9 = (nDrv x d pn ln) ∧ isNd M9 G ta k of nd (nDrvX x) ∧ gFr (gT (ndT9 ta k)) M M9 ∧ k9 = 0)) 0 0 (gA G) := by
  have hnd := hP_0
  obtain ⟨sa, wa, rc, an, er, wq, wm, rq, rh, h0, h1, h2, h3, h4, h5, h8, f1, f2, tm, aw, i1, i2, i3⟩ := hP_0
  have e1 : nDrv x d pn ln = 1 := by simp (decide := true) only [nDrv, hph, if_true, if_false]
  have e2 : nDrvX x = x := by simp (decide := true) only [nDrvX, hph, if_true, if_false]
  rw [e1, e2]
  refine gMono_i (met_Ph_drive l G M 8 nd) ?_
  intro r9 M9 k9 ⟨q1, q2, q3⟩
  subst q2
  exact ⟨q1, hnd, gFr.refl, q3⟩
set_option maxHeartbeats 4000000 in
theorem met_N_drive9 (l : Launch) (G : gG) (M : gM) (ta : Nat) (k : Nat) (of : Nat) (nd : Nat) (x : NS) (ca : Nat) (d : frD) (pn : Nat) (ln : Nat) (hta : 2 ≤ ta ∧ ta < 9) (hph : x.ph = 9) (hcur : nCur x ca d pn ln)  (hP_0 : isNd M G ta k of nd x) : Met l yX3_drive (ws_ yX3_drive cX3_drive 2 (some .int)) ({ frames := 0, cells := 0, slots := 0, locals := 0 }) (gPc G [.ref (gph G 9), .ref nd] M) (gQi G (fun r9 M9 k9 => r9 = (nDrv x d pn ln) ∧ isNd M9 G ta k of nd (nDrvX x) ∧ gFr (gT (ndT9 ta k)) M M9 ∧ k9 = 0)) 0 0 (gA G) := by
  have hnd := hP_0
  obtain ⟨sa, wa, rc, an, er, wq, wm, rq, rh, h0, h1, h2, h3, h4, h5, h8, f1, f2, tm, aw, i1, i2, i3⟩ := hP_0
  have e1 : nDrv x d pn ln = 1 := by simp (decide := true) only [nDrv, hph, if_true, if_false]
  have e2 : nDrvX x = x := by simp (decide := true) only [nDrvX, hph, if_true, if_false]
  rw [e1, e2]
  refine gMono_i (met_Ph_drive l G M 9 nd) ?_
  intro r9 M9 k9 ⟨q1, q2, q3⟩
  subst q2
  exact ⟨q1, hnd, gFr.refl, q3⟩
set_option maxHeartbeats 4000000 in
theorem met_N_drive4 (l : Launch) (G : gG) (M : gM) (ta : Nat) (k : Nat) (of : Nat) (nd : Nat) (x : NS) (ca : Nat) (d : frD) (pn : Nat) (ln : Nat) (hta : 2 ≤ ta ∧ ta < 9) (hph : x.ph = 4) (hcur : nCur x ca d pn ln)  (hP_0 : isNd M G ta k of nd x) : Met l yX23_drive (ws_ yX23_drive cX23_drive 2 (some .int)) ({ frames := 6, cells := 0, slots := 0, locals := 170 }) (gPc G [.ref (gph G 4), .ref nd] M) (gQi G (fun r9 M9 k9 => r9 = (nDrv x d pn ln) ∧ isNd M9 G ta k of nd (nDrvX x) ∧ gFr (gT (ndT9 ta k)) M M9 ∧ k9 = 0)) 0 0 (gA G) := by
  have hnd := hP_0
  obtain ⟨sa, wa, rc, an, er, wq, wm, rq, rh, h0, h1, h2, h3, h4, h5, h8, f1, f2, tm, aw, i1, i2, i3⟩ := hP_0
  have e2 : nDrvX x = x := by simp (decide := true) only [nDrvX, hph, if_true, if_false]
  rw [e2]
  by_cases h2' : x.g 2 = 0
  · have e1 : nDrv x d pn ln = cDrvR x.s := by simp (decide := true) only [nDrv, hph, h2', if_true, if_false]
    rw [e1]
    refine gMono_i (met_Ph_drive4R l G M nd (ta, 16 * k) of x.ph x.cu sa wa rc an er x.g (ta, 16 * k + 1) x.s h2' h0 h1) ?_
    intro r9 M9 k9 ⟨q1, q2, q3⟩
    subst q2
    exact ⟨q1, hnd, gFr.refl, q3⟩
  · have e1 : nDrv x d pn ln = cDrvT x.s pn d.1 d.2.1 ln d.2.2.2.1 := by simp (decide := true) only [nDrv, hph, h2', if_true, if_false]
    rw [e1]
    obtain ⟨c1, c2, c3, c4, c5, c6⟩ := hcur hph h2'
    have hfr := f1 _ c2
    simp only [c3] at hfr
    rw [c1] at h0
    refine gMono_i (met_Ph_drive4T l G M nd (ta, 16 * k) of x.ph sa wa rc an er x.g (ta, 16 * k + 1) x.s ca d.1 d.2.1 ln d.2.2.2.1 d.2.2.2.2 pn h2' c5 c6 c4 h0 h1 hfr) ?_
    intro r9 M9 k9 ⟨q1, q2, q3⟩
    subst q2
    exact ⟨q1, hnd, gFr.refl, q3⟩
set_option maxHeartbeats 4000000 in
theorem met_N_drive3 (l : Launch) (G : gG) (M : gM) (ta : Nat) (k : Nat) (of : Nat) (nd : Nat) (x : NS) (ca : Nat) (d : frD) (pn : Nat) (ln : Nat) (hta : 2 ≤ ta ∧ ta < 9) (hph : x.ph = 3) (hcur : nCur x ca d pn ln)  (hP_0 : isNd M G ta k of nd x) : Met l yX21_drive (ws_ yX21_drive cX21_drive 2 (some .int)) ({ frames := 1, cells := 0, slots := 0, locals := 20 }) (gPc G [.ref (gph G 3), .ref nd] M) (gQi G (fun r9 M9 k9 => r9 = (nDrv x d pn ln) ∧ isNd M9 G ta k of nd (nDrvX x) ∧ gFr (gT (ndT9 ta k)) M M9 ∧ k9 = 0)) 0 0 (gA G) := by
  obtain ⟨sa, wa, rc, an, er, wq, wm, rq, rh, h0, h1, h2, h3, h4, h5, h8, f1, f2, tm, aw, i1, i2, i3⟩ := hP_0
  have e1 : nDrv x d pn ln = cRdyD x.W := by simp (decide := true) only [nDrv, hph, if_true, if_false]
  have e2 : nDrvX x = (x.ph, x.W.head?.map Prod.fst, x.g, x.s, x.e, x.W, x.R, x.C, x.ad) := by simp (decide := true) only [nDrvX, hph, if_true, if_false]
  rw [e1, e2]
  refine gMono_i (met_Ph_drive3 l G M nd of x.ph x.cu sa wa rc an er x.g ta k wq wm x.W h0 h2 h3 f1) ?_
  intro r9 M9 k9 ⟨q1, q0, qF, qk⟩
  have hF : gFr (gT (fun u => u = (ta, 16 * k))) M M9 := qF.one h0
  refine ⟨q1, ?_, hF.mono ?_, by omega⟩
  · refine ⟨sa, wa, rc, an, er, wq, wm, rq, rh, q0, hF _ _ _ h1 (by simp [gT]), hF _ _ _ h2 (by simp [gT]), hF _ _ _ h3 (by simp [gT]), hF _ _ _ h4 (by simp [gT]), hF _ _ _ h5 (by simp [gT]), hF _ _ _ h8 (by simp [gT]), f1.fr (hF.mono ?_), f2.fr (hF.mono ?_), tm.fr (hF.mono ?_), aw.fr (hF.mono ?_), i1, i2, i3⟩
    all_goals (intro b t q; obtain ⟨u9, v9⟩ := t; simp only [gT, Prod.mk.injEq, tgE, tg0, ndT] at q ⊢; omega)
  · intro b t q; obtain ⟨u9, v9⟩ := t; simp only [gT, Prod.mk.injEq, ndT9] at q ⊢; omega
