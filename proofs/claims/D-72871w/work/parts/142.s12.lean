/-! a bit time of one node: all phases -/
set_option maxRecDepth 100000
theorem upd_upd {f : Nat → Int32} {a : Nat} {x y : Int32} : upd (upd f a x) a y = upd f a y := by
  funext j
  by_cases h : j = a
  · subst h; rw [pk_us, pk_us]
  · rw [pk_un h, pk_un h, pk_un h]
theorem relK.g {f : Nat → Int32} {k q p : Nat} {cu : Option Nat} {x : NS} {V : List pqE} {g' : Nat → Int32} (h : relK f k q x V) (hg : ∀ j, j = 3 ∨ j = 4 ∨ j = 7 ∨ j = 9 ∨ 15 ≤ j → g' j = x.g j) (h8 : g' 8 = 0 ∨ g' 8 = 1) : relK f k q (p, cu, g', x.s, x.e, x.W, x.R, x.C, x.ad) V := by
  obtain ⟨h1, h2, h3, h4, h5, h6, h7⟩ := h
  refine ⟨?_, by show _ = g' 21; rw [hg 21 (by omega)]; exact h2, ?_, h4, h5, h6, h7⟩
  · show rC f k q g' x.e
    unfold rC at *
    rw [hg 3 (by omega), hg 4 (by omega), hg 7 (by omega), hg 9 (by omega), hg 15 (by omega), hg 16 (by omega), hg 19 (by omega), hg 20 (by omega), hg 22 (by omega), hg 23 (by omega)]
    obtain ⟨a1, a2, a3, a4, a5, a6, a7, a8, a9, a10, a11, a12⟩ := h1
    exact ⟨a1, a2, a3, a4, a5, a6, a7, a8, a9, a10, h8, a12⟩
  · show rW f k q g' x.W V
    unfold rW at *
    rw [hg 17 (by omega)]
    exact h3
/-- the count of a phase -/
theorem sim_cnt {f : Nat → Int32} {k q : Nat} {x : NS} {V : List pqE} {v : Int32} (h : relV f k q x V) (h7 : x.ph = 7 → ∃ n, n ≤ 7 ∧ v = nI n) (h8 : x.ph = 8 → ∃ n, n ≤ 2 ∧ v = nI n) : relV (upd f (256 * k + 2) v) k q (x.ph, x.cu, upd x.g 5 v, x.s, x.e, x.W, x.R, x.C, x.ad) V := by
  have u : ∀ c, c ≠ 2 → upd f (256 * k + 2) v (256 * k + c) = f (256 * k + c) := fun c a => pk_un (by omega)
  obtain ⟨h1, h2, ⟨⟨p1, p2⟩, p3, p4, p5, p6, p7, p8⟩, h4⟩ := h
  refine ⟨(h1.g (g' := upd x.g 5 v) (fun j hj => pk_un (by omega)) h1.1.2.2.2.2.2.2.2.2.2.2.1).fr (fun c hc => u c (by omega)), ?_, ⟨⟨(u 0 (by omega)).trans p1, p2⟩, p3, (u 1 (by omega)).trans p4, pk_us, fun z => ⟨(u 3 (by omega)).trans (p6 z).1, h7 z⟩, fun z => (u 3 (by omega)).trans (p7 z), h8⟩, ?_⟩
  · exact h2.fr h1.2.2.1.2.2.2.2.1 (fun c hc => u c (by omega))
  · intro z
    obtain ⟨b, ln, s1, s2, s3⟩ := h4 z
    refine ⟨b, ln, s1.fr (fun c hc => u c (by omega)), s2.fr (u 22 (by omega)), fun y => ?_⟩
    obtain ⟨ca, d, lw, o1, o2, o3⟩ := s3 y
    exact ⟨ca, d, lw, o1, o2, o3.fr (fun c hc => u c (by omega))⟩
theorem sim_flags {f : Nat → Int32} {k q : Nat} {x : NS} {V : List pqE} {b : Bool} (h : relV f k q x V) (hp : (x.ph = 5 ∧ b = true) ∨ (x.ph = 6 ∧ b = false)) : relV (T_flags f k) k q (cFlagP x.g x.ph, x.cu, cFlagG x.g b, x.s, x.e, x.W, x.R, x.C, x.ad) V := by
  have hP := h.2.2.1
  have e2 : f (256 * k + 2) = x.g 5 := hP.2.2.2.1
  have hf1 : f (256 * k + 1) = x.g 2 := hP.f1 (by omega) (by omega)
  obtain ⟨f1, ef⟩ : ∃ z, z = upd f (256 * k + 2) (x.g 5 + 1) := ⟨_, rfl⟩
  have u : ∀ c, c ≠ 2 → f1 (256 * k + c) = f (256 * k + c) := fun c a => by rw [ef]; exact pk_un (by omega)
  have u2 : f1 (256 * k + 2) = x.g 5 + 1 := by rw [ef]; exact pk_us
  have u0 : f1 (256 * k) = nI x.ph := (u 0 (by omega)).trans hP.1.1
  have eT : T_flags f k = if x.g 5 + 1 = 6 then upd (T_goes f1 k 7) (256 * k + 3) (if nI x.ph = 5 then 1 else 0) else f1 := by
    unfold T_flags
    simp only [e2, ← ef, u2, u0]
  rw [eT]
  unfold cFlagP cFlagG
  by_cases z : x.g 5 + 1 = 6
  · simp only [if_pos z]
    have hv : (if nI x.ph = 5 then (1 : Int32) else 0) = bI b := by
      rcases hp with ⟨z1, z2⟩ | ⟨z1, z2⟩ <;> rw [z1, z2] <;> decide
    rw [hv]
    have hK : relK f1 k q (7, x.cu, upd (upd (cCnt x.g) 5 0) 8 0, x.s, x.e, x.W, x.R, x.C, x.ad) V := (h.1.g (g' := upd (upd (cCnt x.g) 5 0) 8 0) (fun j hj => by unfold cCnt; rw [pk_un (by omega), pk_un (by omega), pk_un (by omega)]) (Or.inl rfl)).fr (fun c hc => u c (by omega))
    have hs := sim_goes hK (by show 7 < 10; omega) (by show 7 ≠ 4; omega) (by show 7 ≠ 6; omega) rfl (fun _ => (u 1 (by omega)).trans hf1) hP.2.1 (fun y => absurd y (by show ¬ 7 = 1; omega)) (fun _ => rfl)
    obtain ⟨F, eF⟩ : ∃ z, z = T_goes f1 k 7 := ⟨_, rfl⟩
    have hs : relV F k q (7, x.cu, upd (upd (cCnt x.g) 5 0) 8 0, x.s, x.e, x.W, x.R, x.C, x.ad) V := by rw [eF]; exact hs
    rw [← eF]
    have w : ∀ c, c ≠ 3 → upd F (256 * k + 3) (bI b) (256 * k + c) = F (256 * k + c) := fun c a => pk_un (by omega)
    obtain ⟨g1, g2, ⟨⟨p1, p2⟩, p3, p4, p5, p6, p7, p8⟩, g4⟩ := hs
    have h01 : bI b = 0 ∨ bI b = 1 := by cases b <;> simp [bI]
    refine ⟨(g1.g (g' := upd (upd (cCnt x.g) 5 0) 8 (bI b)) (fun j hj => (pk_un (by omega)).trans (pk_un (by omega)).symm) (by show bI b = 0 ∨ bI b = 1; exact h01)).fr (fun c hc => w c (by omega)), g2.fr g1.2.2.1.2.2.2.2.1 (fun c hc => w c (by omega)), ⟨⟨(w 0 (by omega)).trans p1, p2⟩, p3, (w 1 (by omega)).trans p4, (w 2 (by omega)).trans p5, fun _ => ⟨pk_us, (p6 rfl).2⟩, fun y => absurd y (by show ¬ 7 = 1; omega), fun y => absurd y (by show ¬ 7 = 8; omega)⟩, fun y => absurd y (by show ¬ 7 = 4; omega)⟩
  · simp only [if_neg z]
    rw [ef]
    exact sim_cnt h (fun y => by omega) (fun y => by omega)
theorem sim_delim {f : Nat → Int32} {k q : Nat} {x : NS} {V : List pqE} {sm pl ol : Int32} (hk : k < 4) (h : relV f k q x V) (hp : x.ph = 7) (hv : sm = 0 ∨ sm = 1) (hpl : f 1025 = pl) (hol : f 1026 = ol) : relV (T_delim f k sm) k (q + 1) (cDelP x.g x.ph sm pl ol, x.cu, cDelG x.g sm pl ol, x.s, cDelE x.g x.e sm, x.W, x.R, x.C, x.ad) V := by
  have hP := h.2.2.1
  have e2 : f (256 * k + 2) = x.g 5 := hP.2.2.2.1
  have hf1 : f (256 * k + 1) = x.g 2 := hP.f1 (by omega) (by omega)
  obtain ⟨e3, n, n7, en⟩ := hP.2.2.2.2.1 hp
  have hg8 := h.1.1.2.2.2.2.2.2.2.2.2.2.1
  obtain ⟨F, eF⟩ : ∃ z, z = upd f (256 * k + 3) 0 := ⟨_, rfl⟩
  have u : ∀ c, c ≠ 3 → F (256 * k + c) = f (256 * k + c) := fun c a => by rw [eF]; exact pk_un (by omega)
  have ug : ∀ c, 1024 ≤ c → F c = f c := fun c a => by rw [eF]; exact pk_un (by omega)
  have u3 : F (256 * k + 3) = 0 := by rw [eF]; exact pk_us
  have hK1 : relK F k q (x.ph, x.cu, upd x.g 8 0, x.s, x.e, x.W, x.R, x.C, x.ad) V := (h.1.g (g' := upd x.g 8 0) (fun j hj => pk_un (by omega)) (Or.inl rfl)).fr (fun c hc => u c (by omega))
  have h1 : relV F k q (x.ph, x.cu, upd x.g 8 0, x.s, x.e, x.W, x.R, x.C, x.ad) V := by
    obtain ⟨-, h2, ⟨⟨p1, p2⟩, p3, p4, p5, p6, p7, p8⟩, h4⟩ := h
    exact ⟨hK1, h2.fr hK1.2.2.1.2.2.2.2.1 (fun c hc => u c (by omega)), ⟨⟨(u 0 (by omega)).trans p1, p2⟩, p3, (u 1 (by omega)).trans p4, (u 2 (by omega)).trans p5, fun _ => ⟨u3, n, n7, en⟩, fun z => absurd (hp.symm.trans z) (by omega), fun z => absurd (hp.symm.trans z) (by omega)⟩, fun z => absurd (hp.symm.trans z) (by omega)⟩
  have hF1 : F (256 * k + 1) = x.g 2 := (u 1 (by omega)).trans hf1
  have hF2 : F (256 * k + 2) = x.g 5 := (u 2 (by omega)).trans e2
  have q7 : (x.g 5 = 7) ↔ n = 7 := by rw [en]; exact nI_eq (b := 7) (by omega) (by decide)
  have q8 : (x.g 5 + 1 = 8) ↔ n = 7 := by rw [en, nI_1]; exact (nI_eq (b := 8) (by omega) (by decide)).trans (by omega)
  have q0 : (x.g 5 = 0) ↔ n = 0 := by rw [en]; exact nI_eq (b := 0) (by omega) (by decide)
  have ql : (x.g 5 < 7) ↔ n < 7 := by rw [en]; exact nI_ltI (b := 7) (by omega) (by decide)
  have qz : (x.g 5 ≤ 0) ↔ n = 0 := by rw [en]; exact (nI_leI (b := 0) (by omega) (by decide)).trans (by omega)
  have eT : T_delim f k sm = if sm = 1 then (if n = 7 then T_goes (upd F (256 * k + 2) (x.g 5 + 1)) k 8 else upd F (256 * k + 2) (x.g 5 + 1)) else if n = 0 then (if x.g 8 = 1 ∧ ¬ x.g 2 = 1 then T_recv F k 8 else F) else if n < 7 then T_errs F k 4 else T_goes F k 6 := by
    unfold T_delim
    simp only [← eF, hF2, e2, e3, hF1, q7, q0, ql]
  rw [eT]
  unfold cDelP cDelG cDelE
  simp only [q7, q8, qz]
  rcases hv with s0 | s1
  · have ns : ¬ sm = 1 := by rw [s0]; decide
    simp only [if_neg ns]
    by_cases z0 : n = 0
    · have z7 : ¬ n = 7 := by omega
      simp only [if_pos z0, if_neg z7]
      rcases hg8 with g0 | g1
      · simp only [if_pos g0, if_neg (fun (y : x.g 8 = 1 ∧ ¬ x.g 2 = 1) => absurd (g0.symm.trans y.1) (by decide))]
        exact h1.mono (by omega)
      · have n8 : ¬ x.g 8 = 0 := by rw [g1]; decide
        simp only [if_neg n8]
        rcases hP.2.1 with r0 | r1
        · simp only [if_pos r0, if_pos (show x.g 8 = 1 ∧ ¬ x.g 2 = 1 from ⟨g1, by rw [r0]; decide⟩)]
          obtain ⟨m5, m51, m52⟩ := hK1.1.2.1.1
          have g4 : x.g 4 = nI m5 := hK1.1.2.1.2.symm.trans m51
          obtain ⟨m, hm, hm2⟩ : ∃ m, m ≤ 255 ∧ (if 255 < nI m5 + 8 then (255 : Int32) else nI m5 + 8) = nI m := by
            by_cases y : 255 < nI m5 + 8
            · exact ⟨255, by omega, by rw [if_pos y]; rfl⟩
            · rw [if_neg y]
              have e8 : nI m5 + 8 = nI (m5 + 8) := nI_a (b := 8) rfl
              rw [e8] at y ⊢
              exact ⟨m5 + 8, (nI_leI (b := 255) (by omega) (by decide)).mp (Int32.not_lt.mp y), rfl⟩
          have eR : T_recv F k 8 = upd F (256 * k + 5) (nI m) := by unfold T_recv; rw [m51, hm2]
          have eC : cRaise (upd x.g 8 0) 8 = upd (upd x.g 8 0) 4 (nI m) := by
            unfold cRaise
            rw [show upd x.g 8 0 4 = x.g 4 from rfl, g4, minI_255, hm2]
          rw [eR, eC]
          have w : ∀ c, c ≠ 5 → upd F (256 * k + 5) (nI m) (256 * k + c) = F (256 * k + c) := fun c a => pk_un (by omega)
          obtain ⟨⟨d1, d2, d3, d4, d5, d6, d7⟩, g2, ⟨⟨p1, p2⟩, p3, p4, p5, p6, p7, p8⟩, g4'⟩ := h1
          refine relV.mono (q := q) ⟨⟨d1.re hm, (w 13 (by omega)).trans d2, d3.fr (fun c hc => w c (by omega)), d4.fr (fun c hc => w c (by omega)), d5.fr (fun c hc => w c (by omega)), d6, by rw [w 19 (by omega)]; exact d7⟩, g2.fr d3.2.2.2.2.1 (fun c hc => w c (by omega)), ⟨⟨(w 0 (by omega)).trans p1, p2⟩, p3, (w 1 (by omega)).trans p4, (w 2 (by omega)).trans p5, fun y => ⟨(w 3 (by omega)).trans (p6 y).1, (p6 y).2⟩, fun y => absurd (hp.symm.trans y) (by omega), fun y => absurd (hp.symm.trans y) (by omega)⟩, fun y => absurd (hp.symm.trans y) (by omega)⟩ (by omega)
        · have r0 : ¬ x.g 2 = 0 := by rw [r1]; decide
          simp only [if_neg r0, if_neg (fun (y : x.g 8 = 1 ∧ ¬ x.g 2 = 1) => y.2 r1)]
          exact h1.mono (by omega)
    · by_cases z7 : n = 7
      · simp only [if_neg z0, if_pos z7, if_neg (show ¬ n < 7 by omega)]
        exact (sim_over hK1 hF1 hP.2.1).mono (by omega)
      · simp only [if_neg z0, if_neg z7, if_pos (show n < 7 by omega)]
        exact sim_errs hk (by omega) (by omega) hK1 hF1 hP.2.1 ((ug 1025 (by omega)).trans hpl) ((ug 1026 (by omega)).trans hol)
  · simp only [if_pos s1]
    by_cases z7 : n = 7
    · simp only [if_pos z7]
      have hK2 : relK (upd F (256 * k + 2) (x.g 5 + 1)) k q (8, x.cu, upd (cCnt (upd x.g 8 0)) 5 0, x.s, x.e, x.W, x.R, x.C, x.ad) V := (hK1.g (g' := upd (cCnt (upd x.g 8 0)) 5 0) (fun j hj => by unfold cCnt; rw [pk_un (by omega), pk_un (by omega)]) (Or.inl rfl)).fr (fun c hc => pk_un (by omega))
      exact (sim_goes hK2 (by show 8 < 10; omega) (by show 8 ≠ 4; omega) (by show 8 ≠ 6; omega) rfl (fun _ => (pk_un (by omega)).trans hF1) hP.2.1 (fun y => absurd y (by show ¬ 8 = 1; omega)) (fun y => absurd y (by show ¬ 8 = 7; omega))).mono (by omega)
    · simp only [if_neg z7]
      exact (sim_cnt h1 (fun _ => ⟨n + 1, by omega, by rw [en]; exact nI_1 n⟩) (fun y => absurd (hp.symm.trans y) (by omega))).mono (by omega)
theorem sim_inter {f : Nat → Int32} {k q : Nat} {x : NS} {V : List pqE} {sm pl : Int32} (hk : k < 4) (h : relV f k q x V) (hp : x.ph = 8) (hv : sm = 0 ∨ sm = 1) (hpl : f 1025 = pl) : relV (T_inter f k sm) k q (cIntP x.g x.ph sm pl, x.cu, cIntG x.g sm pl, cIntS x.g x.s sm, x.e, x.W, x.R, x.C, x.ad) V := by
  have hP := h.2.2.1
  have e2 : f (256 * k + 2) = x.g 5 := hP.2.2.2.1
  have hf1 : f (256 * k + 1) = x.g 2 := hP.f1 (by omega) (by omega)
  obtain ⟨n, n2, en⟩ := hP.2.2.2.2.2.2 hp
  obtain ⟨F, eF⟩ : ∃ z, z = upd f (256 * k + 2) (x.g 5 + 1) := ⟨_, rfl⟩
  have u : ∀ c, c ≠ 2 → F (256 * k + c) = f (256 * k + c) := fun c a => by rw [eF]; exact pk_un (by omega)
  have ug : ∀ c, 1024 ≤ c → F c = f c := fun c a => by rw [eF]; exact pk_un (by omega)
  have hF1 : F (256 * k + 1) = x.g 2 := (u 1 (by omega)).trans hf1
  have hK0 : relK F k q x V := h.1.fr (fun c hc => u c (by omega))
  have ql : (x.g 5 < 2) ↔ n < 2 := by rw [en]; exact nI_ltI (b := 2) (by omega) (by decide)
  have q3 : (x.g 5 + 1 = 3) ↔ n = 2 := by rw [en, nI_1]; exact (nI_eq (b := 3) (by omega) (by decide)).trans (by omega)
  have e4 : F (256 * k + 4) = x.g 3 := (u 4 (by omega)).trans h.1.1.1.2
  have e5 : F (256 * k + 5) = x.g 4 := (u 5 (by omega)).trans h.1.1.2.1.2
  have eT : T_inter f k sm = if n < 2 then (if sm = 0 then T_goes F k 6 else F) else if sm = 0 then T_beg F k false false 0 else if x.g 2 = 1 ∧ (pl ≤ x.g 3 ∨ pl ≤ x.g 4) then T_goes F k 9 else T_goes F k 3 := by
    unfold T_inter
    simp only [e2, ← eF, hF1, ug 1025 (by omega), hpl, e4, e5, ql]
  rw [eT]
  unfold cIntP cIntG cIntS
  simp only [ql, q3]
  rcases hv with s0 | s1
  · simp only [if_pos s0]
    by_cases z : n < 2
    · simp only [if_pos z]
      exact sim_over hK0 hF1 hP.2.1
    · simp only [if_neg z]
      exact sim_beg_f hK0
  · have ns : ¬ sm = 0 := by rw [s1]; decide
    simp only [if_neg ns]
    by_cases z : n < 2
    · simp only [if_pos z, if_neg (show ¬ n = 2 by omega)]
      rw [eF]
      exact sim_cnt h (fun y => absurd (hp.symm.trans y) (by omega)) (fun _ => ⟨n + 1, by omega, by rw [en]; exact nI_1 n⟩)
    · simp only [if_neg z, if_pos (show n = 2 by omega)]
      have hK : ∀ p, relK F k q (p, x.cu, upd (cCnt x.g) 5 0, x.s, x.e, x.W, x.R, x.C, x.ad) V := fun p => hK0.g (g' := upd (cCnt x.g) 5 0) (fun j hj => by unfold cCnt; rw [pk_un (by omega), pk_un (by omega)]) hK0.1.2.2.2.2.2.2.2.2.2.2.1
      have go : ∀ p, p < 10 → p ≠ 4 → p ≠ 6 → ¬ (4 ≤ p ∧ p ≤ 8) → p ≠ 1 → p ≠ 7 → relV (T_goes F k (nI p)) k q (p, x.cu, upd (cCnt x.g) 5 0, x.s, x.e, x.W, x.R, x.C, x.ad) V := fun p a1 a2 a3 a4 a5 a6 => sim_goes (hK p) a1 a2 a3 rfl (fun y => absurd y a4) hP.2.1 (fun y => absurd y a5) (fun y => absurd y a6)
      have e9 : (9 : Int32) = nI 9 := rfl
      have e3 : (3 : Int32) = nI 3 := rfl
      have go3 := go 3 (by omega) (by omega) (by omega) (by omega) (by omega) (by omega)
      have go9 := go 9 (by omega) (by omega) (by omega) (by omega) (by omega) (by omega)
      rw [← e3] at go3
      rw [← e9] at go9
      rcases hP.2.1 with r0 | r1
      · simp only [if_pos r0, if_neg (fun (y : x.g 2 = 1 ∧ (pl ≤ x.g 3 ∨ pl ≤ x.g 4)) => absurd (r0.symm.trans y.1) (by decide))]
        exact go3
      · have r0 : ¬ x.g 2 = 0 := by rw [r1]; decide
        have hc : (cPas (cCnt x.g) pl = true) ↔ (pl ≤ x.g 3 ∨ pl ≤ x.g 4) := by
          show decide (pl ≤ x.g 3 ∨ pl ≤ x.g 4) = true ↔ _
          exact decide_eq_true_iff
        by_cases y : pl ≤ x.g 3 ∨ pl ≤ x.g 4
        · simp only [if_neg r0, if_pos (hc.mpr y), if_pos (show x.g 2 = 1 ∧ (pl ≤ x.g 3 ∨ pl ≤ x.g 4) from ⟨r1, y⟩)]
          exact go9
        · simp only [if_neg r0, if_neg (fun w => y (hc.mp w)), if_neg (fun (w : x.g 2 = 1 ∧ (pl ≤ x.g 3 ∨ pl ≤ x.g 4)) => y w.2)]
          exact go3
theorem sim_susp {f : Nat → Int32} {k q : Nat} {x : NS} {V : List pqE} {sm : Int32} (hk : k < 4) (h : relV f k q x V) (hp : x.ph = 9) (hv : sm = 0 ∨ sm = 1) : relV (T_susp f k sm) k q (cSusP x.g x.ph sm, x.cu, cSusG x.g sm, cRdyS x.s sm, x.e, x.W, x.R, x.C, x.ad) V := by
  have hP := h.2.2.1
  have e2 : f (256 * k + 2) = x.g 5 := hP.2.2.2.1
  obtain ⟨F, eF⟩ : ∃ z, z = upd f (256 * k + 2) (x.g 5 + 1) := ⟨_, rfl⟩
  have u : ∀ c, c ≠ 2 → F (256 * k + c) = f (256 * k + c) := fun c a => by rw [eF]; exact pk_un (by omega)
  have u2 : F (256 * k + 2) = x.g 5 + 1 := by rw [eF]; exact pk_us
  have hK0 : relK F k q x V := h.1.fr (fun c hc => u c (by omega))
  have eT : T_susp f k sm = if sm = 0 then T_beg F k false false 0 else if x.g 5 + 1 = 8 then T_goes F k 3 else F := by
    unfold T_susp
    simp only [e2, ← eF, u2]
  rw [eT]
  unfold cSusP cSusG cRdyS
  rcases hv with s0 | s1
  · simp only [if_pos s0]
    exact sim_beg_f hK0
  · have ns : ¬ sm = 0 := by rw [s1]; decide
    simp only [if_neg ns]
    by_cases z : x.g 5 + 1 = 8
    · simp only [if_pos z]
      have hK : relK F k q (3, x.cu, upd (cCnt x.g) 5 0, x.s, x.e, x.W, x.R, x.C, x.ad) V := hK0.g (g' := upd (cCnt x.g) 5 0) (fun j hj => by unfold cCnt; rw [pk_un (by omega), pk_un (by omega)]) hK0.1.2.2.2.2.2.2.2.2.2.2.1
      exact sim_goes hK (by show 3 < 10; omega) (by show 3 ≠ 4; omega) (by show 3 ≠ 6; omega) rfl (fun y => absurd y.1 (by show ¬ 4 ≤ 3; omega)) hP.2.1 (fun y => absurd y (by show ¬ 3 = 1; omega)) (fun y => absurd y (by show ¬ 3 = 7; omega))
    · simp only [if_neg z]
      rw [eF]
      exact sim_cnt h (fun y => absurd (hp.symm.trans y) (by omega)) (fun y => absurd (hp.symm.trans y) (by omega))
theorem sim_join {f : Nat → Int32} {k q : Nat} {x : NS} {V : List pqE} {sm : Int32} (h : relV f k q x V) (hp : x.ph = 2) : relV (T_join f k sm) k q (cLisP x.g x.ph sm, x.cu, cLisG x.g sm, x.s, x.e, x.W, x.R, x.C, x.ad) V := by
  have hP := h.2.2.1
  have e2 : f (256 * k + 2) = x.g 5 := hP.2.2.2.1
  obtain ⟨v, ev⟩ : ∃ z, z = (if sm = 1 then x.g 5 + 1 else 0) := ⟨_, rfl⟩
  obtain ⟨F, eF⟩ : ∃ z, z = upd f (256 * k + 2) v := ⟨_, rfl⟩
  have u : ∀ c, c ≠ 2 → F (256 * k + c) = f (256 * k + c) := fun c a => by rw [eF]; exact pk_un (by omega)
  have u2 : F (256 * k + 2) = v := by rw [eF]; exact pk_us
  have hK0 : relK F k q x V := h.1.fr (fun c hc => u c (by omega))
  have eT : T_join f k sm = if v = 11 then T_goes F k 3 else F := by
    unfold T_join
    simp only [e2, ← ev, ← eF, u2]
  have eB : cRunB x.g sm = decide (v = 11) := by unfold cRunB; rw [← ev]
  have eG : cRunG x.g sm = upd x.g 5 (if v = 11 then 0 else v) := by unfold cRunG; rw [← ev, upd_upd]
  rw [eT]
  unfold cLisP cLisG
  rw [eB, eG]
  by_cases z : v = 11
  · simp only [decide_eq_true z, if_pos z, if_true, upd_upd]
    have hK : relK F k q (3, x.cu, upd x.g 5 0, x.s, x.e, x.W, x.R, x.C, x.ad) V := hK0.g (g' := upd x.g 5 0) (fun j hj => pk_un (by omega)) hK0.1.2.2.2.2.2.2.2.2.2.2.1
    exact sim_goes hK (by show 3 < 10; omega) (by show 3 ≠ 4; omega) (by show 3 ≠ 6; omega) rfl (fun y => absurd y.1 (by show ¬ 4 ≤ 3; omega)) hP.2.1 (fun y => absurd y (by show ¬ 3 = 1; omega)) (fun y => absurd y (by show ¬ 3 = 7; omega))
  · simp only [decide_eq_false z, if_neg z, Bool.false_eq_true, if_false]
    rw [eF]
    exact sim_cnt h (fun y => absurd (hp.symm.trans y) (by omega)) (fun y => absurd (hp.symm.trans y) (by omega))
theorem sim_recov {f : Nat → Int32} {k q : Nat} {x : NS} {V : List pqE} {sm rv : Int32} (hk : k < 4) (h : relV f k q x V) (hp : x.ph = 1) (hrv : f 1027 = rv) : relV (T_recov f k sm) k q (cSilP x.g x.ph sm rv, x.cu, cSilG x.g sm rv, x.s, x.e, x.W, x.R, x.C, x.ad) V := by
  have hP := h.2.2.1
  have e2 : f (256 * k + 2) = x.g 5 := hP.2.2.2.1
  have e3 : f (256 * k + 3) = x.g 6 := hP.2.2.2.2.2.1 hp
  obtain ⟨v, ev⟩ : ∃ z, z = (if sm = 1 then x.g 5 + 1 else 0) := ⟨_, rfl⟩
  obtain ⟨F, eF⟩ : ∃ z, z = upd f (256 * k + 2) v := ⟨_, rfl⟩
  have u : ∀ c, c ≠ 2 → F (256 * k + c) = f (256 * k + c) := fun c a => by rw [eF]; exact pk_un (by omega)
  have u2 : F (256 * k + 2) = v := by rw [eF]; exact pk_us
  have eB : cRunB x.g sm = decide (v = 11) := by unfold cRunB; rw [← ev]
  have eG : cRunG x.g sm = upd x.g 5 (if v = 11 then 0 else v) := by unfold cRunG; rw [← ev, upd_upd]
  obtain ⟨F3, eF3⟩ : ∃ z, z = upd (upd F (256 * k + 2) 0) (256 * k + 3) (x.g 6 + 1) := ⟨_, rfl⟩
  have w : ∀ c, c ≠ 2 → c ≠ 3 → F3 (256 * k + c) = f (256 * k + c) := fun c a b => by rw [eF3, pk_un (by omega), pk_un (by omega)]; exact u c a
  have w3 : F3 (256 * k + 3) = x.g 6 + 1 := by rw [eF3]; exact pk_us
  have w2 : F3 (256 * k + 2) = 0 := by rw [eF3, pk_un (by omega)]; exact pk_us
  have wg : F3 1027 = rv := by rw [eF3, pk_un (by omega), pk_un (by omega), eF, pk_un (by omega)]; exact hrv
  have eT : T_recov f k sm = if v = 11 then (if x.g 6 + 1 < rv then F3 else T_goes (upd (upd F3 (256 * k + 4) 0) (256 * k + 5) 0) k 3) else F := by
    have r3 : upd F (256 * k + 2) 0 (256 * k + 3) = x.g 6 := (pk_un (by omega)).trans ((u 3 (by omega)).trans e3)
    unfold T_recov
    simp only [e2, ← ev, ← eF, u2, r3, ← eF3, w3, wg]
  rw [eT]
  unfold cSilP cSilG
  rw [eB, eG]
  by_cases z : v = 11
  · simp only [decide_eq_true z, if_pos z, if_true]
    have g6 : upd x.g 5 0 6 = x.g 6 := rfl
    rw [g6]
    have hK3 : relK F3 k q x V := h.1.fr (fun c hc => w c (by omega) (by omega))
    by_cases y : x.g 6 + 1 < rv
    · simp only [if_pos y]
      obtain ⟨-, h2, ⟨⟨p1, p2⟩, p3, p4, p5, p6, p7, p8⟩, h4⟩ := h
      have hK : relK F3 k q (x.ph, x.cu, upd (upd x.g 5 0) 6 (x.g 6 + 1), x.s, x.e, x.W, x.R, x.C, x.ad) V := hK3.g (g' := upd (upd x.g 5 0) 6 (x.g 6 + 1)) (fun j hj => by rw [pk_un (by omega), pk_un (by omega)]) hK3.1.2.2.2.2.2.2.2.2.2.2.1
      exact ⟨hK, h2.fr hK3.2.2.1.2.2.2.2.1 (fun c hc => w c (by omega) (by omega)), ⟨⟨(w 0 (by omega) (by omega)).trans p1, p2⟩, p3, (w 1 (by omega) (by omega)).trans p4, w2, fun t => absurd (hp.symm.trans t) (by omega), fun _ => w3, fun t => absurd (hp.symm.trans t) (by omega)⟩, fun t => absurd (hp.symm.trans t) (by omega)⟩
    · simp only [if_neg y]
      obtain ⟨G, eGG⟩ : ∃ z, z = upd (upd F3 (256 * k + 4) 0) (256 * k + 5) 0 := ⟨_, rfl⟩
      rw [← eGG]
      have t : ∀ c, c ≠ 4 → c ≠ 5 → G (256 * k + c) = F3 (256 * k + c) := fun c a b => by rw [eGG, pk_un (by omega), pk_un (by omega)]
      have t4 : G (256 * k + 4) = nI 0 := by rw [eGG, pk_un (by omega)]; exact pk_us
      have t5 : G (256 * k + 5) = nI 0 := by rw [eGG]; exact pk_us
      obtain ⟨d1, d2, d3, d4, d5, d6, d7⟩ := hK3
      have hC : rC G k q (upd (upd (upd (upd (upd x.g 5 0) 6 (x.g 6 + 1)) 3 0) 4 0) 5 0) x.e := by
        obtain ⟨a1, a2, a3, a4, a5, a6, a7, a8, a9, a10, a11, a12⟩ := d1
        have hl : T_last G k = T_last F3 k := by unfold T_last; rw [t 11 (by omega) (by omega)]
        refine ⟨⟨⟨0, t4, by omega⟩, t4⟩, ⟨⟨0, t5, by omega⟩, t5⟩, fun j b1 b2 => ?_, hl.trans a4, (t 12 (by omega) (by omega)).trans a5, by rw [t 14 (by omega) (by omega)]; exact a6, (t 15 (by omega) (by omega)).trans a7, (t 16 (by omega) (by omega)).trans a8, (t 17 (by omega) (by omega)).trans a9, by rw [t 18 (by omega) (by omega)]; exact a10, a11, by rw [t 26 (by omega) (by omega)]; exact a12⟩
        rw [Nat.add_assoc, t _ (by omega) (by omega), ← Nat.add_assoc]
        exact a3 j b1 b2
      exact sim_goes (x := (3, x.cu, upd (upd (upd (upd (upd x.g 5 0) 6 (x.g 6 + 1)) 3 0) 4 0) 5 0, x.s, x.e, x.W, x.R, x.C, x.ad)) ⟨hC, (t 13 (by omega) (by omega)).trans d2, d3.fr (fun c hc => t c (by omega) (by omega)), d4.fr (fun c hc => t c (by omega) (by omega)), d5.fr (fun c hc => t c (by omega) (by omega)), d6, by rw [t 19 (by omega) (by omega)]; exact d7⟩ (by show 3 < 10; omega) (by show 3 ≠ 4; omega) (by show 3 ≠ 6; omega) rfl (fun y => absurd y.1 (by show ¬ 4 ≤ 3; omega)) hP.2.1 (fun y => absurd y (by show ¬ 3 = 1; omega)) (fun y => absurd y (by show ¬ 3 = 7; omega))
  · simp only [decide_eq_false z, if_neg z, Bool.false_eq_true, if_false]
    rw [eF]
    exact sim_cnt h (fun y => absurd (hp.symm.trans y) (by omega)) (fun y => absurd (hp.symm.trans y) (by omega))
