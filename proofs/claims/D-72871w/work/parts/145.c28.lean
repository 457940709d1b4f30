/-! packed nodes: the copy -/
set_option maxRecDepth 100000
def nCpy (x : NS) : NS := (x.ph, x.cu, x.g, x.s, eCpy x.e, pqFilt (fun _ => true) [] x.W, x.R, x.C, x.ad)
set_option maxHeartbeats 4000000 in
theorem met_N_copy (l : Launch) (G : gG) (M : gM) (ta : Nat) (tb : Nat) (k : Nat) (of : Nat) (nd : Nat) (o2 : Nat) (n2 : Nat) (x : NS) (hta : 2 ≤ ta ∧ ta < 9) (htb : 2 ≤ tb ∧ tb < 9) (hab : ta ≠ tb) (hC4 : x.C.length ≤ 4) (hg2 : x.g 2 = 0 ∨ x.g 2 = 1) (hg7 : x.g 7 = 0 ∨ x.g 7 = 1) (hg8 : x.g 8 = 0 ∨ x.g 8 = 1) (hz4 : x.s 4 = 0 ∨ x.s 4 = 1) (hM_0 : M nd = some ((ta, 16 * k), .inr (2, [.null, .null, .int 0, .int 0, .int 0, .int 0, .int 0, .int 0, .int 0, .int 0, .null, .null, .null, .null, .null, .int 0, .int 0, .int 0, .null, .int 0, .int 0, .int 0, .int 0, .int 0]))) (hP_0 : isNd M G tb k o2 n2 x) : Met l yX2_init_2 (ws_ yX2_init_2 cX2_init_2 5 none) ({ frames := 16, cells := 16, slots := 90, locals := 422 }) (gPc G [.ref nd, .ref of, .ref n2] M) (gQv G (fun M9 k9 => isNd M9 G ta k of nd (nCpy x) ∧ isNd M9 G tb k o2 n2 x ∧ gFr (gT (cpyT ta tb k)) M M9 ∧ k9 ≤ 16)) 16 90 (gA G) := by
  obtain ⟨sa, wa, rc, an, er, wq, wm, rq, rh, h0, h1, h2, h3, h4, h5, h8, f1, f2, tm, aw, i1, i2, i3⟩ := hP_0
  refine gMono_v (met_Nd_copy0 l G M nd of ta k tb n2 o2 x.ph x.cu sa wa rc an er x.g x.s wq wm x.W rq rh x.R x.e x.C x.ad hta htb hab i1 i2 i3 hC4 hg2 hg7 hg8 hz4 hM_0 h0 h1 h2 h3 h4 h5 h8 f1 f2 tm aw) ?_
  intro M9 k9 ⟨s9, w9, r9, a9, e9, q9, d9, m9, p0, p1, p2, p3, p4, p5, p8, z1, z2, z3, z4, qF, qk⟩
  have hl : (pqFilt (fun _ => true) [] x.W).length ≤ 4 := by
    have := pqFilt_len (P := fun _ => true) (W := x.W) (A := []) (by simpa using i1)
    simp only [List.length_nil, Nat.zero_add] at this
    exact Nat.le_trans this i1
  refine ⟨⟨s9, w9, r9, a9, e9, q9, m9, d9, 0, p0, p1, p2, p3, p4, p5, p8, z1, z2, z3, aw.fr (qF.mono ?_), hl, by omega, i3⟩, ⟨sa, wa, rc, an, er, wq, wm, rq, rh, qF _ _ _ h0 (by show ¬ cpyT ta tb k (tb, 16 * k); simp only [cpyT]; omega), qF _ _ _ h1 (by show ¬ cpyT ta tb k (tb, 16 * k + 1); simp only [cpyT]; omega), qF _ _ _ h2 (by show ¬ cpyT ta tb k (tb, 16 * k + 2); simp only [cpyT]; omega), qF _ _ _ h3 (by show ¬ cpyT ta tb k (tb, 16 * k + 3); simp only [cpyT]; omega), qF _ _ _ h4 (by show ¬ cpyT ta tb k (tb, 16 * k + 4); simp only [cpyT]; omega), qF _ _ _ h5 (by show ¬ cpyT ta tb k (tb, 16 * k + 5); simp only [cpyT]; omega), qF _ _ _ h8 (by show ¬ cpyT ta tb k (tb, 16 * k + 8); simp only [cpyT]; omega), f1.fr (qF.mono ?_), f2.fr (qF.mono ?_), z4, aw.fr (qF.mono ?_), i1, i2, i3⟩, qF, qk⟩
  all_goals (intro b t q; obtain ⟨u9, v9⟩ := t; simp only [gT, cpyT, tgE] at q ⊢; omega)
theorem cpy_in {f g : Nat → Int32} {n i : Nat} (h : i < n) : va_cpy f g 0 0 n i = f i := by
  unfold va_cpy
  simp [h]
theorem relV.cpy {f : Nat → Int32} {k q : Nat} {x : NS} {V : List pqE} (h : relV f k q x V) : relV f k q (nCpy x) V := by
  obtain ⟨⟨c1, c2, c3, c4, c5, c6, c7⟩, g2, g3, g4⟩ := h
  have hW := pqCopy (by rw [← c3.1.length_eq]; exact c3.2.2.2.2.1) c3.1 c3.2.1
  obtain ⟨a1, a2, a3, a4⟩ := c1
  obtain ⟨w1, w2, w3, w4⟩ := c3
  refine ⟨⟨⟨a1, a2, fun j h1 h5 => ?_, a4⟩, c2, ⟨hW.1, w2, hW.2, w4⟩, c4, c5, c6, c7⟩, g2, g3, g4⟩
  rw [a3 j h1 h5]
  exact (cpy_in (by omega)).symm
theorem relN.cpy {f : Nat → Int32} {k q : Nat} {x : NS} (h : relN f k q x) : relN f k q (nCpy x) := by
  obtain ⟨V, h⟩ := h
  exact ⟨V, h.cpy⟩
