/-! packed nodes: constructor, add, cancel -/
set_option maxRecDepth 100000
def nd0 : NS := (3, none, z19, upd z0 0 (-1), z0, [], [], [], fun _ => (0, 0))
set_option maxHeartbeats 4000000 in
theorem met_N_init (l : Launch) (G : gG) (M : gM) (ta : Nat) (k : Nat) (of : Nat) (nd : Nat) (hta : 2 ≤ ta ∧ ta < 9) (hM_0 : M nd = some ((ta, 16 * k), .inr (2, [.null, .null, .int 0, .int 0, .int 0, .int 0, .int 0, .int 0, .int 0, .int 0, .null, .null, .null, .null, .null, .int 0, .int 0, .int 0, .null, .int 0, .int 0, .int 0, .int 0, .int 0]))) : Met l yX2_init (ws_ yX2_init cX2_init 2 none) ({ frames := 5, cells := 8, slots := 44, locals := 95 }) (gPc G [.ref nd, .ref of] M) (gQv G (fun M9 k9 => isNd M9 G ta k of nd nd0 ∧ gFr (gL [nd]) M M9 ∧ k9 ≤ 8)) 8 44 (gA G) := by
  refine gMono_v (met_Nd_init0 l G M nd of ta k hta hM_0) ?_
  intro M9 k9 ⟨sa, wa, rc, an, er, wq, rq, q0, q1, q2, q3, q4, q5, q8, tm, qF, qk⟩
  exact ⟨⟨sa, wa, rc, an, er, wq, 0, rq, 0, q0, q1, q2, q3, q4, q5, q8, frs.nil, frs.nil, tm, (fun e he => by cases he), Nat.zero_le _, by decide, Nat.zero_le _⟩, qF, qk⟩
def nAdd (x : NS) (y : Nat) (id : Int32) (rm : Bool) (ln da : Int32) : NS := (x.ph, x.cu, upd x.g 17 (x.g 17 + 1), x.s, x.e, pqAdd x.W (y, (id, rm, ln, da, x.g 17)), x.R, x.C, x.ad)
set_option maxHeartbeats 4000000 in
theorem met_N_add (l : Launch) (G : gG) (M : gM) (ta : Nat) (k : Nat) (of : Nat) (nd : Nat) (x : NS) (id : Int32) (rm : Bool) (ln : Int32) (da : Int32) (hta : 2 ≤ ta ∧ ta < 9) (hW : x.W.length < 4)  (hP_0 : isNd M G ta k of nd x) : Met l yX2_add (ws_ yX2_add cX2_add 5 none) ({ frames := 7, cells := 1, slots := 5, locals := 186 }) (gPc G [.ref nd, .int id, .int (bI rm), .int ln, .int da] M) (gQv G (fun M9 k9 => ∃ y : Nat, isNd M9 G ta k of nd (nAdd x y id rm ln da) ∧ gFr (gT (ndT9 ta k)) M M9 ∧ M y = none ∧ k9 ≤ 1)) 1 5 (gA G) := by
  obtain ⟨sa, wa, rc, an, er, wq, wm, rq, rh, h0, h1, h2, h3, h4, h5, h8, f1, f2, tm, aw, i1, i2, i3⟩ := hP_0
  refine gMono_v (met_Nd_add l G M nd of x.ph x.cu sa wa rc an er x.g ta k wq wm x.W id rm ln da hta hW h0 h2 h3 f1) ?_
  intro M9 k9 ⟨y, q0, q2, q3, p1, qF, qn, qk⟩
  have hF : gFr (gT (fun u => u = (ta, 16 * k) ∨ u = (ta, 16 * k + 2) ∨ u = (ta, 16 * k + 3))) M M9 := qF.three h0 h2 h3
  refine ⟨y, ⟨sa, wa, rc, an, er, wq, wm + 1, rq, rh, q0, hF _ _ _ h1 (by simp [gT]), ?_, q3, hF _ _ _ h4 (by simp [gT]), hF _ _ _ h5 (by simp [gT]), hF _ _ _ h8 (by simp [gT]), p1, f2.fr (hF.mono ?_), tm.fr (hF.mono ?_), aw.fr (hF.mono ?_), ?_, i2, i3⟩, hF.mono ?_, qn, qk⟩
  · have e9 : (pqAdd x.W (y, (id, rm, ln, da, x.g 17))).length = x.W.length + 1 := pqAdd_len hW
    rw [q2, ← e9]; rfl
  · intro b t q; obtain ⟨u9, v9⟩ := t; simp only [gT, Prod.mk.injEq, tgE, tg0, ndT] at q ⊢; omega
  · intro b t q; obtain ⟨u9, v9⟩ := t; simp only [gT, Prod.mk.injEq, tgE, tg0, ndT] at q ⊢; omega
  · intro b t q; obtain ⟨u9, v9⟩ := t; simp only [gT, Prod.mk.injEq, tgE, tg0, ndT] at q ⊢; omega
  · show (pqAdd x.W _).length ≤ 4; rw [pqAdd_len hW]; omega
  · intro b t q; obtain ⟨u9, v9⟩ := t; simp only [gT, Prod.mk.injEq, ndT9] at q ⊢; omega
def nCanW (x : NS) (id : Int32) : List pqE := pqFilt (fun e => decide (cKeep x.g x.ph x.cu id e)) [] x.W
def nCan (x : NS) (id : Int32) : NS := (x.ph, x.cu, x.g, x.s, x.e, nCanW x id, x.R, x.C, x.ad)
set_option maxHeartbeats 4000000 in
theorem met_N_cancel (l : Launch) (G : gG) (M : gM) (ta : Nat) (k : Nat) (of : Nat) (nd : Nat) (x : NS) (id : Int32) (hta : 2 ≤ ta ∧ ta < 9) (hph : x.ph < 10)  (hP_0 : isNd M G ta k of nd x) : Met l yX2_cancel (ws_ yX2_cancel cX2_cancel 6 (some .int)) ({ frames := 7, cells := 3, slots := 14, locals := 186 }) (gPc G [.ref nd, .int id] M) (gQi G (fun r9 M9 k9 => r9 = (nI x.W.length - nI (nCanW x id).length) ∧ isNd M9 G ta k of nd (nCan x id) ∧ gFr (gT (ndT9 ta k)) M M9 ∧ k9 ≤ 3)) 3 14 (gA G) := by
  obtain ⟨sa, wa, rc, an, er, wq, wm, rq, rh, h0, h1, h2, h3, h4, h5, h8, f1, f2, tm, aw, i1, i2, i3⟩ := hP_0
  refine gMono_i (met_Nd_cancel l G M nd of x.ph x.cu sa wa rc an er x.g ta k wq wm x.W id hta i1 hph h0 h2 h3 f1) ?_
  intro r9 M9 k9 ⟨na, nq, m9, e1, q0, q2, q3, p1, hF, qk⟩
  have hl : (nCanW x id).length ≤ 4 := by
    have := pqFilt_len (P := fun e => decide (cKeep x.g x.ph x.cu id e)) (W := x.W) (A := []) (by simpa using i1)
    simp only [List.length_nil, Nat.zero_add] at this
    exact Nat.le_trans this i1
  refine ⟨e1, ⟨sa, na, rc, an, er, nq, m9, rq, rh, q0, hF _ _ _ h1 ?_, q2, q3, hF _ _ _ h4 ?_, hF _ _ _ h5 ?_, hF _ _ _ h8 ?_, p1, f2.fr (hF.mono ?_), tm.fr (hF.mono ?_), aw.fr (hF.mono ?_), hl, i2, i3⟩, hF.mono ?_, qk⟩
  · show ¬ ndW ta k (ta, 16 * k + 1); simp only [ndW]; omega
  · show ¬ ndW ta k (ta, 16 * k + 4); simp only [ndW]; omega
  · show ¬ ndW ta k (ta, 16 * k + 5); simp only [ndW]; omega
  · show ¬ ndW ta k (ta, 16 * k + 8); simp only [ndW]; omega
  all_goals (intro b t q; obtain ⟨u9, v9⟩ := t; simp only [gT, ndW, ndT9, tgE, tg0] at q ⊢; omega)
set_option maxHeartbeats 4000000 in
theorem met_N_isOn (l : Launch) (G : gG) (M : gM) (ta : Nat) (k : Nat) (of : Nat) (nd : Nat) (x : NS) (hph : x.ph < 10)  (hP_0 : isNd M G ta k of nd x) : Met l yX2_isOn (ws_ yX2_isOn cX2_isOn 1 (some .boolean)) ({ frames := 0, cells := 0, slots := 0, locals := 0 }) (gPc G [.ref nd] M) (gQi G (fun r9 M9 k9 => r9 = (bI (decide (¬ x.ph = 0 ∧ ¬ x.ph = 1))) ∧ M9 = M ∧ k9 = 0)) 0 0 (gA G) := by
  obtain ⟨sa, wa, rc, an, er, wq, wm, rq, rh, h0, h1, h2, h3, h4, h5, h8, f1, f2, tm, aw, i1, i2, i3⟩ := hP_0
  exact met_Nd_isOn l G M nd (ta, 16 * k) of x.ph x.cu sa wa rc an er x.g hph h0
set_option maxHeartbeats 4000000 in
theorem met_N_isTransmitter (l : Launch) (G : gG) (M : gM) (ta : Nat) (k : Nat) (of : Nat) (nd : Nat) (x : NS) (hph : x.ph < 10)  (hP_0 : isNd M G ta k of nd x) : Met l yX2_isTransmitter (ws_ yX2_isTransmitter cX2_isTransmitter 1 (some .boolean)) ({ frames := 1, cells := 0, slots := 0, locals := 25 }) (gPc G [.ref nd] M) (gQi G (fun r9 M9 k9 => r9 = (bI (decide (¬ x.g 2 = 0 ∧ 4 ≤ x.ph ∧ x.ph ≤ 8))) ∧ M9 = M ∧ k9 = 0)) 0 0 (gA G) := by
  obtain ⟨sa, wa, rc, an, er, wq, wm, rq, rh, h0, h1, h2, h3, h4, h5, h8, f1, f2, tm, aw, i1, i2, i3⟩ := hP_0
  exact met_Nd_isTransmitter l G M nd (ta, 16 * k) of x.ph x.cu sa wa rc an er x.g hph h0
set_option maxHeartbeats 4000000 in
theorem met_N_waitingAt (l : Launch) (G : gG) (M : gM) (ta : Nat) (k : Nat) (of : Nat) (nd : Nat) (x : NS) (n : Nat) (x9 : pqE) (hta : 2 ≤ ta ∧ ta < 9) (hn : n < x.W.length) (hx : (pqPolls (pqFilt (fun _ => true) [] x.W) n).head? = some x9)  (hP_0 : isNd M G ta k of nd x) : Met l yX2_waitingAt (ws_ yX2_waitingAt cX2_waitingAt 5 (some (.object "ArbitratedBus$Frame"))) ({ frames := 7, cells := 3, slots := 14, locals := 186 }) (gPc G [.ref nd, .int (nI n)] M) (gQq G (fun r9 M9 k9 => r9 = (some x9.1) ∧ isNd M9 G ta k of nd x ∧ gFr (gT (tgR 9 0 8)) M M9 ∧ k9 ≤ 3)) 3 14 (gA G) := by
  have hnd := hP_0
  obtain ⟨sa, wa, rc, an, er, wq, wm, rq, rh, h0, h1, h2, h3, h4, h5, h8, f1, f2, tm, aw, i1, i2, i3⟩ := hP_0
  refine gMono_q (met_Nd_waitingAt l G M nd of x.ph x.cu sa wa rc an er x.g ta k wq wm x.W n x9 hta i1 hn hx h0 h2 h3 f1) ?_
  intro r9 M9 k9 ⟨e1, hF, qk⟩
  refine ⟨e1, hnd.fr (hF.mono ?_), hF, qk⟩
  intro b t q; obtain ⟨u9, v9⟩ := t; simp only [gT, tgR, ndT, tg0] at q ⊢; omega
set_option maxHeartbeats 4000000 in
theorem met_N_receivedAt (l : Launch) (G : gG) (M : gM) (ta : Nat) (k : Nat) (of : Nat) (nd : Nat) (x : NS) (n : Nat) (hta : 2 ≤ ta ∧ ta < 9) (hn : n < 2147483648)  (hP_0 : isNd M G ta k of nd x) : Met l yX2_receivedAt (ws_ yX2_receivedAt cX2_receivedAt 5 (some (.object "ArbitratedBus$Frame"))) ({ frames := 4, cells := 1, slots := 4, locals := 83 }) (gPc G [.ref nd, .int (nI n)] M) (gQq G (fun r9 M9 k9 => r9 = ((x.R[n]?).map Prod.fst) ∧ isNd M9 G ta k of nd x ∧ gFr (gT (tgR 9 0 8)) M M9 ∧ k9 ≤ 1)) 1 4 (gA G) := by
  have hnd := hP_0
  obtain ⟨sa, wa, rc, an, er, wq, wm, rq, rh, h0, h1, h2, h3, h4, h5, h8, f1, f2, tm, aw, i1, i2, i3⟩ := hP_0
  refine gMono_q (met_Nd_receivedAt l G M nd of x.ph x.cu sa wa rc an er x.g ta k rq rh x.R n hta i2 i3 hn h0 h4 h5 f2) ?_
  intro r9 M9 k9 ⟨e1, hF, qk⟩
  refine ⟨e1, hnd.fr (hF.mono ?_), hF, qk⟩
  intro b t q; obtain ⟨u9, v9⟩ := t; simp only [gT, tgR, ndT, tg0] at q ⊢; omega
set_option maxHeartbeats 4000000 in
theorem met_N_isPassive (l : Launch) (G : gG) (M : gM) (ta : Nat) (k : Nat) (of : Nat) (nd : Nat) (x : NS) (bn : Nat) (bd : Nat) (bh : Nat) (bt : Int32) (pl : Int32) (ol : Int32) (rv : Int32)  (hM_0 : M of = some ((ta, 100), .inr (1, [.ref bn, .ref bd, .ref bh, .int bt, .int pl, .int ol, .int rv]))) (hP_0 : isNd M G ta k of nd x) : Met l yX2_isPassive (ws_ yX2_isPassive cX2_isPassive 1 (some .boolean)) ({ frames := 0, cells := 0, slots := 0, locals := 0 }) (gPc G [.ref nd] M) (gQi G (fun r9 M9 k9 => r9 = (bI (cPas x.g pl)) ∧ M9 = M ∧ k9 = 0)) 0 0 (gA G) := by
  obtain ⟨sa, wa, rc, an, er, wq, wm, rq, rh, h0, h1, h2, h3, h4, h5, h8, f1, f2, tm, aw, i1, i2, i3⟩ := hP_0
  exact met_Nd_isPassive l G M nd (ta, 16 * k) of x.ph x.cu sa wa rc an er x.g (ta, 100) bn bd bh bt pl ol rv h0 hM_0
