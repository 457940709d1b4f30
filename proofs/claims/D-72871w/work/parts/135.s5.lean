/-! the stuffed part of a frame -/
set_option maxRecDepth 100000
theorem smBare_n {s : Nat → Int32} {ln : Nat} (h : s 5 = nI ln) : smBare s = nI (19 + byS s ln) := by
  unfold smBare byS
  by_cases q : s 4 = 0
  · rw [if_pos q, if_pos q, h]
    rw [show (8 : Int32) * nI ln = nI (8 * ln) from nI_m (a := 8) rfl]
    exact nI_a (a := 19) rfl
  · rw [if_neg q, if_neg q]; rfl
theorem nI_lt19 {b : Nat} (h : b ≤ 66) : (nI b < 19) ↔ b < 19 := nI_ltI (b := 19) (by omega) (by decide)
theorem stf_iff {f : Nat → Int32} {k b ln : Nat} {s : Nat → Int32} (h : rS f k s b ln) : smStfB s = true ↔ (b < 19 ∨ b < 34 + byS s ln ∨ s 1 = 5) := by
  have hby := byS_le (s := s) h.1.2.2
  have hb := h.1.2.1
  have e : smStfB s = true ↔ (s 2 < 19 ∨ s 2 < smBare s + 15 ∨ s 1 = 5) := decide_eq_true_iff
  rw [e, h.2.1.2, nI_lt19 (by omega)]
  by_cases q : b < 19
  · exact ⟨fun _ => Or.inl q, fun _ => Or.inl q⟩
  · have h5 := h.2.2.2.2.2.2.2.2.1 (by omega)
    rw [smBare_n h5, show nI (19 + byS s ln) + 15 = nI (34 + byS s ln) from nI_a (b := 15) (by omega)]
    rw [show (nI b < nI (34 + byS s ln)) ↔ b < 34 + byS s ln from nI_ltI (by omega) (by omega)]
/-- what one sampled bit does -/
theorem take_rd {s : Nat → Int32} {v : Int32} {b : Nat} (hb : s 2 = nI b) (h66 : b ≤ 66) : ∃ s', s' = smTake (smSee s v) v ∧ s' 0 = v ∧ s' 1 = (if v = s 0 then s 1 + 1 else 1) ∧ s' 2 = nI (b + 1) ∧ s' 3 = (if 1 ≤ b ∧ b < 12 then s 3 <<< ((1 : Int32) &&& 31) ||| v else s 3) ∧ s' 4 = (if b = 12 then (if v = 1 then 1 else 0) else s 4) ∧ s' 5 = (if 15 ≤ b ∧ b < 19 then s 5 <<< ((1 : Int32) &&& 31) ||| v else s 5) ∧
    s' 6 = (if 19 ≤ b ∧ nI b < smBare s then s 6 <<< ((1 : Int32) &&& 31) ||| v else s 6) ∧ s' 7 = (if b < 19 ∨ nI b < smBare s then crcS (s 7) v else s 7) ∧ s' 8 = (if b < 19 ∨ nI b < smBare s then s 8 else s 8 <<< ((1 : Int32) &&& 31) ||| v) ∧ s' 9 = s 9 := by
  have c1 : (0 < nI b) ↔ 1 ≤ b := nI_ltI (a := 0) (by decide) (by omega)
  have c2 : (nI b < 12) ↔ b < 12 := nI_ltI (b := 12) (by omega) (by decide)
  have c3 : (nI b = 12) ↔ b = 12 := nI_eq (b := 12) (by omega) (by decide)
  have c4 : (15 ≤ nI b) ↔ 15 ≤ b := nI_leI (a := 15) (by decide) (by omega)
  have c5 := nI_lt19 h66
  have c6 : (19 ≤ nI b) ↔ 19 ≤ b := nI_leI (a := 19) (by decide) (by omega)
  obtain ⟨s1, e1⟩ : ∃ z, z = smSee s v := ⟨_, rfl⟩
  have r0 : s1 0 = v := by rw [e1]; rfl
  have r1 : s1 1 = (if v = s 0 then s 1 + 1 else 1) := by rw [e1]; rfl
  have ro : ∀ j, j ≠ 0 → j ≠ 1 → s1 j = s j := fun j a b => by rw [e1]; exact (pk_un a).trans (pk_un b)
  have r2 : s1 2 = nI b := (ro 2 (by omega) (by omega)).trans hb
  have hbr : smBare s1 = smBare s := by unfold smBare; rw [ro 4 (by omega) (by omega), ro 5 (by omega) (by omega)]
  obtain ⟨t1, et⟩ : ∃ z, z = smT1 s1 v := ⟨_, rfl⟩
  have t7 : t1 7 = (if b < 19 ∨ nI b < smBare s then crcS (s 7) v else s 7) := by
    rw [et]; unfold smT1; simp only [r2, hbr, c5]
    by_cases q : b < 19 ∨ nI b < smBare s
    · rw [if_pos q, if_pos q]; exact pk_us.trans (by rw [ro 7 (by omega) (by omega)])
    · rw [if_neg q, if_neg q]; exact (pk_un (by omega)).trans (ro 7 (by omega) (by omega))
  have t8 : t1 8 = (if b < 19 ∨ nI b < smBare s then s 8 else s 8 <<< ((1 : Int32) &&& 31) ||| v) := by
    rw [et]; unfold smT1; simp only [r2, hbr, c5]
    by_cases q : b < 19 ∨ nI b < smBare s
    · rw [if_pos q, if_pos q]; exact (pk_un (by omega)).trans (ro 8 (by omega) (by omega))
    · rw [if_neg q, if_neg q]; exact pk_us.trans (by rw [ro 8 (by omega) (by omega)])
  have to : ∀ j, j ≠ 7 → j ≠ 8 → t1 j = s1 j := by
    intro j a1 a2
    rw [et]; unfold smT1
    by_cases q : s1 2 < 19 ∨ s1 2 < smBare s1
    · rw [if_pos q]; exact pk_un a1
    · rw [if_neg q]; exact pk_un a2
  have hbt : smBare t1 = smBare s := by rw [← hbr]; unfold smBare; rw [to 4 (by omega) (by omega), to 5 (by omega) (by omega)]
  obtain ⟨t2, et2⟩ : ∃ z, z = smT2 s1 t1 v := ⟨_, rfl⟩
  have q3 := ro 3 (by omega) (by omega)
  have q4 := ro 4 (by omega) (by omega)
  have q5 := ro 5 (by omega) (by omega)
  have q6 := ro 6 (by omega) (by omega)
  have hT2 : t2 = (if 1 ≤ b ∧ b < 12 then upd t1 3 (s 3 <<< ((1 : Int32) &&& 31) ||| v) else if b = 12 then upd t1 4 (if v = 1 then 1 else 0) else if 15 ≤ b ∧ b < 19 then upd t1 5 (s 5 <<< ((1 : Int32) &&& 31) ||| v) else if 19 ≤ b ∧ nI b < smBare s then upd t1 6 (s 6 <<< ((1 : Int32) &&& 31) ||| v) else t1) := by
    rw [et2]; unfold smT2
    simp only [r2, c1, c2, c3, c4, c5, c6, hbt, q3, q5, q6]
  have p0 := (to 0 (by omega) (by omega)).trans r0
  have p1 := (to 1 (by omega) (by omega)).trans r1
  have p3 := (to 3 (by omega) (by omega)).trans q3
  have p4 := (to 4 (by omega) (by omega)).trans q4
  have p5 := (to 5 (by omega) (by omega)).trans q5
  have p6 := (to 6 (by omega) (by omega)).trans q6
  have p9 := (to 9 (by omega) (by omega)).trans (ro 9 (by omega) (by omega))
  refine ⟨upd t2 2 (s1 2 + 1), by rw [et2, et, e1]; rfl, ?_⟩
  have u2 : upd t2 2 (s1 2 + 1) 2 = nI (b + 1) := by rw [r2]; exact pk_us.trans (nI_1 b)
  have uo : ∀ j, j ≠ 2 → upd t2 2 (s1 2 + 1) j = t2 j := fun j a => pk_un a
  rw [uo 0 (by omega), uo 1 (by omega), u2, uo 3 (by omega), uo 4 (by omega), uo 5 (by omega), uo 6 (by omega), uo 7 (by omega), uo 8 (by omega), uo 9 (by omega)]
  by_cases z1 : 1 ≤ b ∧ b < 12
  · rw [if_pos z1] at hT2
    rw [if_pos z1, if_neg (show ¬ b = 12 by omega), if_neg (show ¬ (15 ≤ b ∧ b < 19) by omega), if_neg (show ¬ (19 ≤ b ∧ nI b < smBare s) by omega), hT2]
    exact ⟨p0, p1, rfl, rfl, p4, p5, p6, t7, t8, p9⟩
  · rw [if_neg z1] at hT2
    rw [if_neg z1]
    by_cases z2 : b = 12
    · rw [if_pos z2] at hT2
      rw [if_pos z2, if_neg (show ¬ (15 ≤ b ∧ b < 19) by omega), if_neg (show ¬ (19 ≤ b ∧ nI b < smBare s) by omega), hT2]
      exact ⟨p0, p1, rfl, p3, rfl, p5, p6, t7, t8, p9⟩
    · rw [if_neg z2] at hT2
      rw [if_neg z2]
      by_cases z3 : 15 ≤ b ∧ b < 19
      · rw [if_pos z3] at hT2
        rw [if_pos z3, if_neg (show ¬ (19 ≤ b ∧ nI b < smBare s) by omega), hT2]
        exact ⟨p0, p1, rfl, p3, p4, rfl, p6, t7, t8, p9⟩
      · rw [if_neg z3] at hT2
        rw [if_neg z3]
        by_cases z4 : 19 ≤ b ∧ nI b < smBare s
        · rw [if_pos z4] at hT2
          rw [if_pos z4, hT2]
          exact ⟨p0, p1, rfl, p3, p4, p5, rfl, t7, t8, p9⟩
        · rw [if_neg z4] at hT2
          rw [if_neg z4, hT2]
          exact ⟨p0, p1, rfl, p3, p4, p5, p6, t7, t8, p9⟩
theorem smT_s {f : Nat → Int32} {a n m : Nat} (h : m = n + 1) : smT f a m = (smT f a n <<< ((1 : Int32) &&& 31)) ||| f (a + n) := by subst h; rfl
theorem crcT_s {f : Nat → Int32} {a n m : Nat} (h : m = n + 1) : crcT f a m = crcS (crcT f a n) (f (a + n)) := by subst h; rfl
theorem rS.take {F f : Nat → Int32} {k b ln ln' : Nat} {s : Nat → Int32} {v : Int32} (h : rS f k s b ln) (hv : v = 0 ∨ v = 1) (h5 : ¬ s 1 = 5) (hlt : b < 19 ∨ b < 34 + byS s ln) (hl4 : ln' ≤ 4) (hlo : 19 ≤ b → ln' = ln) (hln : b = 18 → smTake (smSee s v) v 5 = nI ln')
    (F19 : F (256 * k + 19) = nI (b + 1)) (F20 : F (256 * k + 20) = if v = s 0 then s 1 + 1 else 1) (F21 : F (256 * k + 21) = v) (Fb : F (256 * k + 90 + b) = v) (Fo : ∀ j, j < b → F (256 * k + 90 + j) = f (256 * k + 90 + j)) : rS F k (smTake (smSee s v) v) (b + 1) ln' := by
  have hby := byS_le (s := s) h.1.2.2
  have hbb := h.1.2.1
  obtain ⟨⟨i1, i2, i3⟩, ⟨j1, j2⟩, ⟨j3, n, n1, n2, n3⟩, ⟨j4, j5⟩, a1, a2, a3, a4, a5, a6, a7, a8⟩ := h
  obtain ⟨s', es, t0, t1, t2, t3, t4, t5, t6, t7, t8, t9⟩ := take_rd (v := v) j2 (by omega)
  rw [← es] at hln ⊢
  have hn : n ≤ 4 := by
    rcases (show n = 5 ∨ n ≤ 4 by omega) with q | q
    · exact absurd (n3.trans (by rw [q]; rfl)) h5
    · exact q
  have e91 : ∀ m, m ≤ b - 1 → smT F (256 * k + 91) m = smT f (256 * k + 91) m := fun m hm => smT_c (fun j hj => by have := Fo (j + 1) (by omega); rw [show 256 * k + 90 + (j + 1) = 256 * k + 91 + j by omega] at this; exact this)
  have e105 : ∀ m, m ≤ b - 15 → smT F (256 * k + 105) m = smT f (256 * k + 105) m := fun m hm => smT_c (fun j hj => by have := Fo (j + 15) (by omega); rw [show 256 * k + 90 + (j + 15) = 256 * k + 105 + j by omega] at this; exact this)
  have eG : ∀ c m, 90 ≤ c → c + m ≤ 90 + b → smT F (256 * k + c) m = smT f (256 * k + c) m := fun c m h1 h2 => smT_c (fun j hj => by have := Fo (c - 90 + j) (by omega); rw [show 256 * k + 90 + (c - 90 + j) = 256 * k + c + j by omega] at this; exact this)
  have eC : ∀ m, m ≤ b → crcT F (256 * k + 90) m = crcT f (256 * k + 90) m := fun m h2 => crcT_c (fun j hj => Fo j (by omega))
  have hby' : 19 ≤ b → byS s' ln' = byS s ln := by
    intro q
    unfold byS
    rw [t4, if_neg (show ¬ b = 12 by omega), hlo q]
  have hl8 : byS s' ln' ≤ 32 := byS_le hl4
  have hbare : 19 ≤ b → ((nI b < smBare s) ↔ b < 19 + byS s ln) := by
    intro q
    rw [smBare_n (a5 q)]
    exact nI_ltI (by omega) (by omega)
  refine ⟨⟨by omega, ?_, hl4⟩, ⟨F19, t2⟩, ⟨by rw [F20, t1], ?_⟩, ⟨by rw [F21, t0], by rw [t0]; exact hv⟩, ?_, ?_, ?_, ?_, ?_, ?_, ?_, ?_⟩
  · by_cases q : 19 ≤ b
    · rw [hby' q]; omega
    · omega
  · rw [t1, n3]
    split
    · exact ⟨n + 1, by omega, by omega, nI_1 n⟩
    · exact ⟨1, by omega, by omega, rfl⟩
  · intro j hj
    by_cases q : j = b
    · subst q; rw [Fb]; exact hv
    · rw [Fo j (by omega)]; exact a1 j (by omega)
  · rw [t3]
    by_cases q : b < 12
    · rw [if_pos ⟨i1, q⟩, a2, show min (b + 1 - 1) 11 = b by omega, smT_s (f := F) (a := 256 * k + 91) (m := b) (n := b - 1) (by omega), e91 _ (by omega), show min (b - 1) 11 = b - 1 by omega, show 256 * k + 91 + (b - 1) = 256 * k + 90 + b by omega, Fb]
    · rw [if_neg (by omega), a2, show min (b + 1 - 1) 11 = 11 by omega, show min (b - 1) 11 = 11 by omega, e91 11 (by omega)]
  · rw [t4]
    by_cases q : b = 12
    · subst q
      rw [if_pos rfl, if_pos (show 12 < 12 + 1 by omega)]
      have : F (256 * k + 102) = v := by have := Fb; rw [show 256 * k + 90 + 12 = 256 * k + 102 by omega] at this; exact this
      rw [this]
      rcases hv with rfl | rfl
      · rfl
      · rfl
    · rw [if_neg q, a3]
      by_cases q2 : 12 < b
      · rw [if_pos q2, if_pos (by omega)]
        have := Fo 12 q2
        rw [show 256 * k + 90 + 12 = 256 * k + 102 by omega] at this
        exact this.symm
      · rw [if_neg q2, if_neg (by omega)]
  · rw [t5]
    by_cases q : 15 ≤ b ∧ b < 19
    · rw [if_pos q, a4, show min (b + 1 - 15) 4 = b - 15 + 1 by omega, smT_s rfl, e105 _ (by omega), show min (b - 15) 4 = b - 15 by omega, show 256 * k + 105 + (b - 15) = 256 * k + 90 + b by omega, Fb]
    · rw [if_neg q, a4]
      by_cases q2 : b < 15
      · rw [show min (b + 1 - 15) 4 = 0 by omega, show min (b - 15) 4 = 0 by omega]; rfl
      · rw [show min (b + 1 - 15) 4 = 4 by omega, show min (b - 15) 4 = 4 by omega, e105 4 (by omega)]
  · intro q
    by_cases q2 : b = 18
    · exact hln q2
    · rw [t5, if_neg (by omega), a5 (by omega), hlo (by omega)]
  · rw [t6]
    by_cases q : 19 ≤ b
    · rw [hby' q]
      by_cases q2 : b < 19 + byS s ln
      · rw [if_pos ⟨q, (hbare q).mpr q2⟩, a6, show min (b + 1 - 19) (byS s ln) = b - 19 + 1 by omega, smT_s rfl, eG 109 _ (by omega) (by omega), show min (b - 19) (byS s ln) = b - 19 by omega, show 256 * k + 109 + (b - 19) = 256 * k + 90 + b by omega, Fb]
      · rw [if_neg (fun z => q2 ((hbare q).mp z.2)), a6, show min (b + 1 - 19) (byS s ln) = byS s ln by omega, show min (b - 19) (byS s ln) = byS s ln by omega, eG 109 _ (by omega) (by omega)]
    · rw [if_neg (fun z => q z.1), a6, show b + 1 - 19 = 0 by omega, show b - 19 = 0 by omega, Nat.zero_min, Nat.zero_min]; rfl
  · rw [t7]
    by_cases q : 19 ≤ b
    · rw [hby' q]
      by_cases q2 : b < 19 + byS s ln
      · rw [if_pos (Or.inr ((hbare q).mpr q2)), a7, show min (b + 1) (19 + byS s ln) = b + 1 by omega, crcT_s rfl, eC _ (by omega), show min b (19 + byS s ln) = b by omega, Fb]
      · rw [if_neg (fun z => z.elim (fun y => by omega) (fun y => q2 ((hbare q).mp y))), a7, show min (b + 1) (19 + byS s ln) = 19 + byS s ln by omega, show min b (19 + byS s ln) = 19 + byS s ln by omega, eC _ (by omega)]
    · rw [if_pos (Or.inl (by omega)), a7, show min (b + 1) (19 + byS s' ln') = b + 1 by omega, crcT_s rfl, eC _ (by omega), show min b (19 + byS s ln) = b by omega, Fb]
  · rw [t8]
    by_cases q : 19 ≤ b
    · rw [hby' q]
      by_cases q2 : b < 19 + byS s ln
      · rw [if_pos (Or.inr ((hbare q).mpr q2)), a8, show b + 1 - (19 + byS s ln) = 0 by omega, show b - (19 + byS s ln) = 0 by omega]; rfl
      · rw [if_neg (fun z => z.elim (fun y => by omega) (fun y => q2 ((hbare q).mp y))), a8, show b + 1 - (19 + byS s ln) = b - (19 + byS s ln) + 1 by omega, smT_s rfl, Nat.add_assoc (256 * k) 109 (byS s ln), eG (109 + byS s ln) _ (by omega) (by omega), show 256 * k + (109 + byS s ln) + (b - (19 + byS s ln)) = 256 * k + 90 + b by omega, Fb]
    · rw [if_pos (Or.inl (by omega)), a8, show b + 1 - (19 + byS s' ln') = 0 by omega, show b - (19 + byS s ln) = 0 by omega]; rfl
