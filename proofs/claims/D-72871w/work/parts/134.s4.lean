/-! a frame's bits as the reference lays them; how a frame begins -/
set_option maxRecDepth 100000
theorem bitsT_in {f : Nat → Int32} {fr mn : Nat} {x : Int32} : ∀ (n j : Nat), j < n → bitsT f fr x mn n (fr + j) = x >>> ((nI mn - 1 - nI j) &&& 31) &&& 1
  | n + 1, j, h => by
    by_cases q : j = n
    · subst q; exact pk_us
    · exact (pk_un (by omega)).trans (bitsT_in n j (by omega))
theorem bitsT_out {f : Nat → Int32} {fr mn : Nat} {x : Int32} : ∀ (n c : Nat), (c < fr ∨ fr + n ≤ c) → bitsT f fr x mn n c = f c
  | 0, _, _ => rfl
  | n + 1, c, h => (pk_un (by omega)).trans (bitsT_out n c (by omega))
theorem crcT_sh {F G : Nat → Int32} {a b n : Nat} (h : ∀ j, j < n → F (a + j) = G (b + j)) : crcT F a n = crcT G b n := by
  induction n with
  | zero => rfl
  | succ n ih =>
    show crcS (crcT F a n) (F (a + n)) = crcS (crcT G b n) (G (b + n))
    rw [ih (fun j hj => h j (by omega)), h n (by omega)]
theorem nI_sub {a b c : Nat} (h : c + b = a) : nI a - nI b = nI c := nI_s h
theorem sh_e {m j a p c : Nat} (h1 : c + 1 + j = m) (h2 : c + p = a) : nI m - 1 - nI j = nI a - nI p := by
  rw [show nI m - 1 = nI (c + j) from nI_s (b := 1) (by omega), nI_s (c := c) rfl, nI_s (c := c) h2]
theorem lays_rd {F : Nat → Int32} {fr ln : Nat} {id da : Int32} {rm : Bool} (hl : ln ≤ 4) : (∀ p, p < byF rm ln + 34 → laysT F fr id rm ln da (fr + p) = frBT id rm ln da p) ∧ ∀ c, (c < fr ∨ fr + byF rm ln + 34 ≤ c) → laysT F fr id rm ln da c = F c := by
  have hby := byF_le (rm := rm) hl
  obtain ⟨f1, e1⟩ : ∃ z, z = bitsT (upd F fr 0) (fr + 1) id 11 11 := ⟨_, rfl⟩
  obtain ⟨f2, e2⟩ : ∃ z, z = upd (upd (upd f1 (fr + 12) (bI rm)) (fr + 13) 0) (fr + 14) 0 := ⟨_, rfl⟩
  obtain ⟨f3, e3⟩ : ∃ z, z = bitsT f2 (fr + 15) (nI ln) 4 4 := ⟨_, rfl⟩
  obtain ⟨f4, e4⟩ : ∃ z, z = bitsT f3 (fr + 19) da (byF rm ln) (byF rm ln) := ⟨_, rfl⟩
  have eL : laysT F fr id rm ln da = bitsT f4 (fr + byF rm ln + 19) (crcT f4 fr (byF rm ln + 19)) 15 15 := by rw [e4, e3, e2, e1]; rfl
  have r1 : ∀ p, p < 12 → f1 (fr + p) = frB0 id rm ln da p := by
    intro p hp
    rw [e1]
    by_cases q : p = 0
    · subst q
      rw [bitsT_out 11 _ (by omega)]
      exact pk_us
    · have z := bitsT_in (f := upd F fr 0) (fr := fr + 1) (mn := 11) (x := id) 11 (p - 1) (by omega)
      rw [show fr + 1 + (p - 1) = fr + p by omega] at z
      rw [z, sh_e (a := 11) (p := p) (c := 11 - p) (by omega) (by omega)]
      unfold frB0
      rw [if_neg q, if_pos hp]
      rfl
  have r1o : ∀ c, (c < fr ∨ fr + 12 ≤ c) → f1 c = F c := fun c h => by rw [e1, bitsT_out 11 _ (by omega)]; exact pk_un (by omega)
  have r2 : ∀ p, p < 15 → f2 (fr + p) = frB0 id rm ln da p := by
    intro p hp
    rw [e2]
    by_cases q : p < 12
    · exact (pk_un (by omega)).trans ((pk_un (by omega)).trans ((pk_un (by omega)).trans (r1 p q)))
    · rcases (show p = 12 ∨ p = 13 ∨ p = 14 by omega) with rfl | rfl | rfl
      · exact (pk_un (by omega)).trans ((pk_un (by omega)).trans (pk_us.trans (by simp (decide := true) only [frB0, if_true, if_false])))
      · exact (pk_un (by omega)).trans (pk_us.trans (by simp (decide := true) only [frB0, if_true, if_false]))
      · exact pk_us.trans (by simp (decide := true) only [frB0, if_true, if_false])
  have r2o : ∀ c, (c < fr ∨ fr + 15 ≤ c) → f2 c = F c := fun c h => by rw [e2]; exact (pk_un (by omega)).trans ((pk_un (by omega)).trans ((pk_un (by omega)).trans (r1o c (by omega))))
  have r3 : ∀ p, p < 19 → f3 (fr + p) = frB0 id rm ln da p := by
    intro p hp
    rw [e3]
    by_cases q : p < 15
    · rw [bitsT_out 4 _ (by omega)]; exact r2 p q
    · have z := bitsT_in (f := f2) (fr := fr + 15) (mn := 4) (x := nI ln) 4 (p - 15) (by omega)
      rw [show fr + 15 + (p - 15) = fr + p by omega] at z
      rw [z, sh_e (a := 18) (p := p) (c := 18 - p) (by omega) (by omega)]
      unfold frB0
      rw [if_neg (by omega), if_neg (by omega), if_neg (by omega), if_neg q, if_pos hp]
      rfl
  have r3o : ∀ c, (c < fr ∨ fr + 19 ≤ c) → f3 c = F c := fun c h => by rw [e3, bitsT_out 4 _ (by omega)]; exact r2o c (by omega)
  have r4 : ∀ p, p < byF rm ln + 19 → f4 (fr + p) = frB0 id rm ln da p := by
    intro p hp
    rw [e4]
    by_cases q : p < 19
    · rw [bitsT_out _ _ (by omega)]; exact r3 p q
    · have z := bitsT_in (f := f3) (fr := fr + 19) (mn := byF rm ln) (x := da) (byF rm ln) (p - 19) (by omega)
      rw [show fr + 19 + (p - 19) = fr + p by omega] at z
      rw [z, sh_e (a := byF rm ln + 18) (p := p) (c := byF rm ln + 18 - p) (by omega) (by omega)]
      unfold frB0
      rw [if_neg (by omega), if_neg (by omega), if_neg (by omega), if_neg (by omega), if_neg q]
  have r4o : ∀ c, (c < fr ∨ fr + byF rm ln + 19 ≤ c) → f4 c = F c := fun c h => by rw [e4, bitsT_out _ _ (by omega)]; exact r3o c (by omega)
  have hcr : crcT f4 fr (byF rm ln + 19) = frCrc id rm ln da := by
    unfold frCrc
    exact crcT_sh (fun j hj => by rw [r4 j hj, Nat.zero_add])
  rw [eL, hcr]
  refine ⟨fun p hp => ?_, fun c hc => ?_⟩
  · unfold frBT
    by_cases q : p < byF rm ln + 19
    · rw [if_pos q, bitsT_out _ _ (by omega)]; exact r4 p q
    · rw [if_neg q]
      have z := bitsT_in (f := f4) (fr := fr + byF rm ln + 19) (mn := 15) (x := frCrc id rm ln da) 15 (p - (byF rm ln + 19)) (by omega)
      rw [show fr + byF rm ln + 19 + (p - (byF rm ln + 19)) = fr + p by omega] at z
      rw [z, sh_e (a := byF rm ln + 33) (p := p) (c := byF rm ln + 33 - p) (by omega) (by omega)]
  · rw [bitsT_out _ _ (by omega)]; exact r4o c (by omega)
theorem frBT_01 {id da : Int32} {rm : Bool} {ln p : Nat} : frBT id rm ln da p = 0 ∨ frBT id rm ln da p = 1 := by
  have h : ∀ x : Int32, x &&& 1 = 0 ∨ x &&& 1 = 1 := by
    intro x
    have : (x &&& 1).toBitVec.toNat = x.toBitVec.toNat % 2 := by
      show (x.toBitVec &&& 1#32).toNat = _
      rw [BitVec.toNat_and]
      exact Nat.and_one_is_mod _
    rcases (show x.toBitVec.toNat % 2 = 0 ∨ x.toBitVec.toNat % 2 = 1 by omega) with q | q
    · left; apply Int32.toBitVec_inj.mp; apply BitVec.eq_of_toNat_eq; rw [this, q]; rfl
    · right; apply Int32.toBitVec_inj.mp; apply BitVec.eq_of_toNat_eq; rw [this, q]; rfl
  unfold frBT frB0
  repeat' split
  all_goals first
    | exact h _
    | exact Or.inl rfl
    | (cases rm <;> simp [bI])
/-- the cells of a frame's begin -/
def T_b3 (f : Nat → Int32) (k : Nat) (v : Int32) : Nat → Int32 := T_rel (upd (upd (upd (upd (upd (upd (T_goes f k 4) (256 * k + 1) v) (256 * k + 19) 1) (256 * k + 90) 0) (256 * k + 20) 1) (256 * k + 21) 0) (256 * k + 22) (-1)) k
theorem beg_f {f : Nat → Int32} {k ln : Nat} {rm : Bool} : T_beg f k false rm ln = T_b3 f k 0 := rfl
theorem beg_t {f : Nat → Int32} {k ln : Nat} {rm : Bool} : T_beg f k true rm ln = laysT (upd (T_b3 f k 1) (256 * k + 34) 1) (256 * k + 160) (upd (T_b3 f k 1) (256 * k + 34) 1 (256 * k + 30)) rm ln (upd (T_b3 f k 1) (256 * k + 34) 1 (256 * k + 33)) := rfl
theorem b3_rd {f : Nat → Int32} {k : Nat} {v : Int32} : T_b3 f k v (256 * k) = 4 ∧ T_b3 f k v (256 * k + 1) = v ∧ T_b3 f k v (256 * k + 2) = 0 ∧ T_b3 f k v (256 * k + 19) = 1 ∧ T_b3 f k v (256 * k + 20) = 1 ∧ T_b3 f k v (256 * k + 21) = 0 ∧ T_b3 f k v (256 * k + 22) = -1 ∧ T_b3 f k v (256 * k + 90) = 0 ∧
    (∀ c, c = 34 ∨ c = 39 ∨ c = 44 ∨ c = 49 → T_b3 f k v (256 * k + c) = 0) ∧ (∀ c, 4 ≤ c → (c < 19 ∨ 22 < c) → c ≠ 34 → c ≠ 39 → c ≠ 44 → c ≠ 49 → c ≠ 90 → T_b3 f k v (256 * k + c) = f (256 * k + c)) := by
  unfold T_b3
  refine ⟨?_, ?_, ?_, ?_, ?_, ?_, ?_, ?_, fun c hc => rel_f hc, fun c h1 h2 h3 h4 h5 h6 h7 => ?_⟩
  · exact (rel_o (c := 0) (by omega) (by omega) (by omega) (by omega)).trans ((pk_un (by omega)).trans ((pk_un (by omega)).trans ((pk_un (by omega)).trans ((pk_un (by omega)).trans ((pk_un (by omega)).trans ((pk_un (by omega)).trans goes_0))))))
  · rw [rel_o (by omega) (by omega) (by omega) (by omega)]; simp (decide := true) only [ru, if_true, if_false]
  · rw [rel_o (by omega) (by omega) (by omega) (by omega)]; simp (decide := true) only [ru, if_true, if_false, goes_2]
  · rw [rel_o (by omega) (by omega) (by omega) (by omega)]; simp (decide := true) only [ru, if_true, if_false]
  · rw [rel_o (by omega) (by omega) (by omega) (by omega)]; simp (decide := true) only [ru, if_true, if_false]
  · rw [rel_o (by omega) (by omega) (by omega) (by omega)]; simp (decide := true) only [ru, if_true, if_false]
  · rw [rel_o (by omega) (by omega) (by omega) (by omega)]; simp (decide := true) only [ru, if_true, if_false]
  · rw [rel_o (by omega) (by omega) (by omega) (by omega)]; simp (decide := true) only [ru, if_true, if_false]
  · rw [rel_o h3 h4 h5 h6]
    refine (pk_un (by omega)).trans ((pk_un (by omega)).trans ((pk_un (by omega)).trans ((pk_un (by omega)).trans ((pk_un (by omega)).trans ((pk_un (by omega)).trans ?_)))))
    by_cases q : c = 13
    · subst q; rw [goes_13, if_neg (by decide)]; exact Int32.add_zero _
    · exact goes_o h1 q h3 h4 h5 h6
theorem cBegS_rd {s : Nat → Int32} : cBegS s 0 = 0 ∧ cBegS s 1 = 1 ∧ cBegS s 2 = 1 ∧ cBegS s 3 = 0 ∧ cBegS s 4 = 0 ∧ cBegS s 5 = 0 ∧ cBegS s 6 = 0 ∧ cBegS s 7 = crcS 0 0 ∧ cBegS s 8 = 0 ∧ cBegS s 9 = 0 := by
  refine ⟨?_, ?_, ?_, ?_, ?_, ?_, ?_, ?_, ?_, ?_⟩ <;> first | rfl | (simp (decide := true) [cBegS, smTake, smT2, smT1, smSee, smClear, smCopy, smBare, upd]; done)
theorem sim_b3 {F f : Nat → Int32} {k : Nat} {s : Nat → Int32} (h19 : F (256 * k + 19) = 1) (h20 : F (256 * k + 20) = 1) (h21 : F (256 * k + 21) = 0) (h22 : F (256 * k + 22) = -1) (h90 : F (256 * k + 90) = 0) : rS F k (cBegS s) 1 0 ∧ rT F k (cBegS s) 1 0 := by
  obtain ⟨s0, s1, s2, s3, s4, s5, s6, s7, s8, s9⟩ := cBegS_rd (s := s)
  have hb : byS (cBegS s) 0 = 0 := by unfold byS; split <;> rfl
  refine ⟨⟨⟨by omega, by omega, by omega⟩, ⟨h19, s2⟩, ⟨by rw [h20, s1], 1, by omega, by omega, s1⟩, ⟨by rw [h21, s0], Or.inl s0⟩, fun j hj => ?_, by rw [s3]; rfl, by rw [s4, if_neg (by omega)], by rw [s5]; rfl, fun q => absurd q (by omega), by rw [s6]; rfl, ?_, by rw [s8, hb]; rfl⟩, Or.inl ⟨Or.inl (by omega), h22, s9⟩⟩
  · obtain rfl : j = 0 := by omega
    exact Or.inl h90
  · rw [s7, hb]
    show crcS 0 0 = crcS (crcT F (256 * k + 90) 0) (F (256 * k + 90 + 0))
    rw [Nat.add_zero, h90]; rfl
theorem sim_beg_f {f : Nat → Int32} {k q ln : Nat} {rm : Bool} {x : NS} {V : List pqE} (hK : relK f k q x V) : relV (T_beg f k false rm ln) k q (4, x.cu, cBegG x.g false, cBegS x.s, x.e, x.W, x.R, x.C, x.ad) V := by
  rw [beg_f]
  obtain ⟨b0, b1, b2, b19, b20, b21, b22, b90, bf, bo⟩ := b3_rd (f := f) (k := k) (v := 0)
  obtain ⟨c1, c2, c3, c4, c5, c6, c7⟩ := hK
  obtain ⟨h1, h2⟩ := sim_b3 (F := T_b3 f k 0) (f := f) (s := x.s) b19 b20 b21 b22 b90
  refine ⟨⟨c1.fr (fun c hc => bo c (by omega) (by omega) (by omega) (by omega) (by omega) (by omega) (by omega)), by rw [bo 13 (by omega) (by omega) (by omega) (by omega) (by omega) (by omega) (by omega)]; exact c2, c3.fr (fun c hc => bo c (by omega) (by omega) (by omega) (by omega) (by omega) (by omega) (by omega)), c4.fr (fun c hc => bo c (by omega) (by omega) (by omega) (by omega) (by omega) (by omega) (by omega)), c5.fr (fun c hc => bo c (by omega) (by omega) (by omega) (by omega) (by omega) (by omega) (by omega)), Or.inl (cBegS_rd (s := x.s)).2.2.2.2.1, 1, by omega, b19⟩, ?_, ⟨⟨b0, by show 4 < 10; omega⟩, Or.inl rfl, ?_, b2, fun z => absurd z (by show ¬ 4 = 7; omega), fun z => absurd z (by show ¬ 4 = 1; omega), fun z => absurd z (by show ¬ 4 = 8; omega)⟩, fun _ => ⟨1, 0, h1, h2, fun z => absurd rfl z⟩⟩
  · have e : nSnd (4, x.cu, cBegG x.g false, cBegS x.s, x.e, x.W, x.R, x.C, x.ad) = none := if_neg (fun z => z.2 rfl)
    rw [e]
    exact rF.none c3.2.2.2.2.1 bf
  · show T_b3 f k 0 (256 * k + 1) = if 4 ≤ 4 ∧ 4 ≤ 8 then 0 else 0
    rw [b1]; rfl
theorem sim_beg_t {f : Nat → Int32} {k q ln : Nat} {x : NS} {V : List pqE} {e0 : pqE} (hK : relK f k q x V) (hV : V[0]? = some e0) (hcu : x.cu = some e0.1) (hln : e0.2.2.2.1 = nI ln) (hl4 : ln ≤ 4) : relV (T_beg f k true e0.2.2.1 ln) k q (4, x.cu, cBegG x.g true, cBegS x.s, x.e, x.W, x.R, x.C, x.ad) V := by
  rw [beg_t]
  obtain ⟨b0, b1, b2, b19, b20, b21, b22, b90, bf, bo⟩ := b3_rd (f := f) (k := k) (v := 1)
  obtain ⟨c1, c2, c3, c4, c5, c6, c7⟩ := hK
  obtain ⟨w1, w2, w3, w4⟩ := c3.2.2.2.2.2.2.1 0 e0 hV
  simp only [Nat.mul_zero, Nat.add_zero] at w1 w2 w3 w4
  obtain ⟨g4, eg4⟩ : ∃ z, z = upd (T_b3 f k 1) (256 * k + 34) 1 := ⟨_, rfl⟩
  have g4o : ∀ c, c ≠ 34 → g4 (256 * k + c) = T_b3 f k 1 (256 * k + c) := fun c a => by rw [eg4]; exact pk_un (by omega)
  have g30 : g4 (256 * k + 30) = e0.2.1 := by rw [g4o 30 (by omega), bo 30 (by omega) (by omega) (by omega) (by omega) (by omega) (by omega) (by omega)]; exact w1
  have g33 : g4 (256 * k + 33) = e0.2.2.2.2.1 := by rw [g4o 33 (by omega), bo 33 (by omega) (by omega) (by omega) (by omega) (by omega) (by omega) (by omega)]; exact w4
  rw [← eg4, g30, g33]
  have hby := byF_le (rm := e0.2.2.1) hl4
  obtain ⟨l1, l2⟩ := lays_rd (F := g4) (fr := 256 * k + 160) (id := e0.2.1) (rm := e0.2.2.1) (da := e0.2.2.2.2.1) hl4
  obtain ⟨R, eR⟩ : ∃ z, z = laysT g4 (256 * k + 160) e0.2.1 e0.2.2.1 ln e0.2.2.2.2.1 := ⟨_, rfl⟩
  rw [← eR] at l1 l2 ⊢
  have ro : ∀ c, c < 160 → c ≠ 34 → R (256 * k + c) = T_b3 f k 1 (256 * k + c) := fun c a b => by rw [l2 _ (by omega), g4o c b]
  have r34 : R (256 * k + 34) = 1 := by rw [l2 _ (by omega), eg4]; exact pk_us
  have roo : ∀ c, 4 ≤ c → c < 160 → (c < 19 ∨ 22 < c) → c ≠ 34 → c ≠ 39 → c ≠ 44 → c ≠ 49 → c ≠ 90 → R (256 * k + c) = f (256 * k + c) := fun c a1 a2 a3 a4 a5 a6 a7 a8 => by rw [ro c a2 a4]; exact bo c a1 a3 a4 a5 a6 a7 a8
  obtain ⟨h1, h2⟩ := sim_b3 (F := R) (f := f) (s := x.s) (by rw [ro 19 (by omega) (by omega)]; exact b19) (by rw [ro 20 (by omega) (by omega)]; exact b20) (by rw [ro 21 (by omega) (by omega)]; exact b21) (by rw [ro 22 (by omega) (by omega)]; exact b22) (by rw [ro 90 (by omega) (by omega)]; exact b90)
  have r0 : R (256 * k) = 4 := by have z := ro 0 (by omega) (by omega); simp only [Nat.add_zero] at z; rw [z]; exact b0
  have hm : e0 ∈ V := List.mem_of_getElem? hV
  refine ⟨⟨c1.fr (fun c hc => roo c (by omega) (by omega) (by omega) (by omega) (by omega) (by omega) (by omega) (by omega)), by rw [roo 13 (by omega) (by omega) (by omega) (by omega) (by omega) (by omega) (by omega) (by omega)]; exact c2, c3.fr (fun c hc => roo c (by omega) (by omega) (by omega) (by omega) (by omega) (by omega) (by omega) (by omega)), c4.fr (fun c hc => roo c (by omega) (by omega) (by omega) (by omega) (by omega) (by omega) (by omega) (by omega)), c5.fr (fun c hc => roo c (by omega) (by omega) (by omega) (by omega) (by omega) (by omega) (by omega) (by omega)), Or.inl (cBegS_rd (s := x.s)).2.2.2.2.1, 1, by omega, by rw [ro 19 (by omega) (by omega)]; exact b19⟩, ?_, ⟨⟨r0, by show 4 < 10; omega⟩, Or.inr rfl, ?_, by rw [ro 2 (by omega) (by omega)]; exact b2, fun z => absurd z (by show ¬ 4 = 7; omega), fun z => absurd z (by show ¬ 4 = 1; omega), fun z => absurd z (by show ¬ 4 = 8; omega)⟩, fun _ => ⟨1, 0, h1, h2, fun _ => ⟨e0.1, e0.2, ln, hcu, hm, ⟨hln, hl4⟩, by omega, fun p hp => ?_, fun j hj => ?_⟩⟩⟩
  · have e : nSnd (4, x.cu, cBegG x.g true, cBegS x.s, x.e, x.W, x.R, x.C, x.ad) = some e0.1 := (if_pos ⟨rfl, by show ¬ (1 : Int32) = 0; decide⟩).trans hcu
    rw [e]
    intro i d hd
    have hi : i < V.length := (List.getElem?_eq_some_iff.mp hd).1
    have hV4 := c3.2.2.2.2.1
    by_cases q : i = 0
    · subst q
      rw [hV] at hd
      cases hd
      rw [if_pos rfl]
      exact r34
    · have hne : ¬ (some e0.1 = some d.1) := by
        intro z
        exact nd_ne c3.2.2.2.1 hV hd (fun w => q w.symm) (Option.some.inj z)
      rw [if_neg hne, Nat.add_assoc, ro _ (by omega) (by omega)]
      exact bf _ (by omega)
  · show R (256 * k + 1) = if 4 ≤ 4 ∧ 4 ≤ 8 then 1 else 0
    rw [ro 1 (by omega) (by omega), b1]; rfl
  · have z := l1 p (by omega)
    rw [show 256 * k + 160 + p = 256 * k + p + 160 by omega] at z
    exact z
  · obtain rfl : j = 0 := by omega
    rw [Nat.add_zero, ro 90 (by omega) (by omega), b90]
    have : frBT e0.2.1 e0.2.2.1 ln e0.2.2.2.2.1 0 = 0 := by
      unfold frBT frB0
      rw [if_pos (by omega), if_pos rfl]
    exact this.symm
