/-! the stuffed part of a frame, the reference beside the component -/
set_option maxRecDepth 100000
theorem T_total_c {F f : Nat → Int32} {k : Nat} (h : ∀ c, c = 19 ∨ (102 ≤ c ∧ c ≤ 108) → F (256 * k + c) = f (256 * k + c)) : T_total F k = T_total f k := by
  unfold T_total
  rw [h 19 (by omega), h 102 (by omega), show 256 * k + 15 + 90 = 256 * k + 105 by omega, smT_c (F := F) (f := f) (b := 256 * k + 105) (n := 4) (fun j hj => by rw [Nat.add_assoc]; exact h _ (by omega))]
theorem tot_n {F : Nat → Int32} {k b ln : Nat} {s : Nat → Int32} (h : rS F k s b ln) : T_total F k = if b < 19 then 1000 else nI (34 + byS s ln) := by
  have hby := byS_le (s := s) h.1.2.2
  obtain ⟨⟨i1, i2, i3⟩, ⟨j1, j2⟩, -, -, a1, -, a3, a4, a5, -⟩ := h
  unfold T_total
  have c6 : (19 ≤ nI b) ↔ 19 ≤ b := nI_leI (a := 19) (by decide) (by omega)
  rw [j1]
  by_cases q : b < 19
  · rw [if_neg (fun z => absurd (c6.mp z) (by omega)), if_pos q]
  · rw [if_pos (c6.mpr (by omega)), if_neg q, show 256 * k + 15 + 90 = 256 * k + 105 by omega]
    rw [if_pos (by omega)] at a3
    have e5 := a5 (by omega)
    rw [show min (b - 15) 4 = 4 by omega] at a4
    rw [← a4, e5, ← a3]
    have h01 : s 4 = 0 ∨ s 4 = 1 := by rw [a3]; have := a1 12 (by omega); rw [show 256 * k + 90 + 12 = 256 * k + 102 by omega] at this; exact this
    unfold byS
    rcases h01 with z | z
    · rw [if_neg (by rw [z]; decide), if_pos z, show (8 : Int32) * nI ln = nI (8 * ln) from nI_m (a := 8) rfl]
      exact nI_a (a := 34) rfl
    · rw [if_pos z, if_neg (by rw [z]; decide)]; rfl
theorem rS.s4 {F : Nat → Int32} {k b ln : Nat} {s : Nat → Int32} (h : rS F k s b ln) : s 4 = 0 ∨ s 4 = 1 := by
  obtain ⟨-, -, -, -, a1, -, a3, -⟩ := h
  rw [a3]
  by_cases q : 12 < b
  · rw [if_pos q]; have := a1 12 q; rw [show 256 * k + 90 + 12 = 256 * k + 102 by omega] at this; exact this
  · rw [if_neg q]; exact Or.inl rfl
theorem sim_stE {F : Nat → Int32} {k b ln : Nat} {s : Nat → Int32} {sm xs la : Int32} (hS : rS (upd (upd F (256 * k + 20) (if xs = 0 ∧ sm = la then F (256 * k + 20) + 1 else 1)) (256 * k + 21) sm) k s b ln) (h22 : F (256 * k + 22) = -1) (h9 : s 9 = 0) :
    rS (T_stE F k sm xs la) k s b ln ∧ rT (T_stE F k sm xs la) k s b ln ∧ ∀ c, c ≠ 20 → c ≠ 21 → c ≠ 22 → T_stE F k sm xs la (256 * k + c) = F (256 * k + c) := by
  have hby := byS_le (s := s) hS.1.2.2
  obtain ⟨F2, e2⟩ : ∃ z, z = upd (upd F (256 * k + 20) (if xs = 0 ∧ sm = la then F (256 * k + 20) + 1 else 1)) (256 * k + 21) sm := ⟨_, rfl⟩
  rw [← e2] at hS
  have eR : T_stE F k sm xs la = if F2 (256 * k + 19) = T_total F2 k ∧ F2 (256 * k + 20) < 5 then upd F2 (256 * k + 22) 0 else F2 := by rw [e2]; rfl
  have ro : ∀ c, c ≠ 20 → c ≠ 21 → F2 (256 * k + c) = F (256 * k + c) := fun c a b => by rw [e2]; exact (pk_un (by omega)).trans (pk_un (by omega))
  have ht := tot_n hS
  obtain ⟨n, n1, n2, n3⟩ := hS.2.2.1.2
  have h20 : F2 (256 * k + 20) = nI n := hS.2.2.1.1.trans n3
  have c5 : (nI n < 5) ↔ n < 5 := nI_ltI (b := 5) (by omega) (by decide)
  have hb := hS.1.2.1
  have h19 : F2 (256 * k + 19) = nI b := hS.2.1.1
  rw [eR]
  by_cases q : F2 (256 * k + 19) = T_total F2 k ∧ F2 (256 * k + 20) < 5
  · rw [if_pos q]
    have u : ∀ c, c ≠ 22 → upd F2 (256 * k + 22) 0 (256 * k + c) = F2 (256 * k + c) := fun c a => pk_un (by omega)
    obtain ⟨q1, q2⟩ := q
    rw [h19, ht] at q1
    rw [h20, c5] at q2
    have hb19 : 19 ≤ b := by
      by_cases z : b < 19
      · rw [if_pos z] at q1
        have := (nI_eq (a := b) (b := 1000) (by omega) (by decide)).mp q1
        omega
      · omega
    rw [if_neg (by omega)] at q1
    have q1 := (nI_eq (by omega) (by omega)).mp q1
    refine ⟨hS.fr (fun c hc => u c (by omega)), Or.inr ⟨hb19, q1, ?_, 0, by omega, pk_us, h9⟩, fun c a1 a2 a3 => (u c a3).trans (ro c a1 a2)⟩
    rw [n3]
    intro z
    have := (nI_eq (a := n) (b := 5) (by omega) (by decide)).mp z
    omega
  · rw [if_neg q]
    refine ⟨hS, Or.inl ⟨?_, (ro 22 (by omega) (by omega)).trans h22, h9⟩, fun c a1 a2 _ => ro c a1 a2⟩
    by_cases z : b < 19
    · exact Or.inl z
    · by_cases z2 : b < 34 + byS s ln
      · exact Or.inr (Or.inl z2)
      · right; right
        have hn : ¬ n < 5 := fun y => q ⟨by rw [h19, ht, if_neg z]; congr 1; omega, by rw [h20]; exact c5.mpr y⟩
        rw [n3, show n = 5 by omega]; rfl
theorem sim_stay {F f : Nat → Int32} {k q b ln : Nat} {x : NS} {V : List pqE} {s : Nat → Int32} (h : relV f k q x V) (hp : x.ph = 4) (hS : rS F k s b ln) (hT : rT F k s b ln) (hF : ∀ c, c < 90 → (c < 19 ∨ 22 < c) → F (256 * k + c) = f (256 * k + c)) (hO : ¬ x.g 2 = 0 → ∃ ca d lw, x.cu = some ca ∧ (ca, d) ∈ V ∧ rO F k b d lw) : relV F k q (x.ph, x.cu, x.g, s, x.e, x.W, x.R, x.C, x.ad) V := by
  obtain ⟨h1, h2, h3, h4⟩ := h
  have hby := byS_le (s := s) hS.1.2.2
  have hb := hS.1.2.1
  refine ⟨h1.fr2 hS.s4 ⟨b, by omega, hS.2.1.1⟩ (fun c hc => hF c (by omega) (by omega)), ?_, h3.fr (fun c hc => hF c (by omega) (by omega)), fun _ => ⟨b, ln, hS, hT, hO⟩⟩
  have e : nSnd (x.ph, x.cu, x.g, s, x.e, x.W, x.R, x.C, x.ad) = nSnd x := rfl
  rw [e]
  exact h2.fr h1.2.2.1.2.2.2.2.1 (fun c hc => hF c (by omega) (by omega))
theorem rS.see {f : Nat → Int32} {k b ln : Nat} {s : Nat → Int32} {v : Int32} (h : rS f k s b ln) (hv : v = 0 ∨ v = 1) (hne : ¬ v = s 0) : rS (upd (upd f (256 * k + 20) 1) (256 * k + 21) v) k (smSee s v) b ln := by
  have hby := byS_le (s := s) h.1.2.2
  have hbb := h.1.2.1
  obtain ⟨F, eF⟩ : ∃ z, z = upd (upd f (256 * k + 20) 1) (256 * k + 21) v := ⟨_, rfl⟩
  have ro : ∀ c, c ≠ 20 → c ≠ 21 → F (256 * k + c) = f (256 * k + c) := fun c a b => by rw [eF]; exact (pk_un (by omega)).trans (pk_un (by omega))
  have r20 : F (256 * k + 20) = 1 := by rw [eF]; exact (pk_un (by omega)).trans pk_us
  have r21 : F (256 * k + 21) = v := by rw [eF]; exact pk_us
  rw [← eF]
  obtain ⟨h1, ⟨j1, j2⟩, h3, h4, a1, a2, a3, a4, a5, a6, a7, a8⟩ := h
  have e1 : smSee s v 1 = 1 := by show (if v = s 0 then s 1 + 1 else 1) = 1; rw [if_neg hne]
  have hc : ∀ a n, 90 ≤ a → a + n ≤ 160 → smT F (256 * k + a) n = smT f (256 * k + a) n := fun a n h1 h2 => smT_c (fun j hj => by rw [Nat.add_assoc]; exact ro _ (by omega) (by omega))
  have hcr : ∀ n, n ≤ 60 → crcT F (256 * k + 90) n = crcT f (256 * k + 90) n := fun n h2 => crcT_c (fun j hj => by rw [Nat.add_assoc]; exact ro _ (by omega) (by omega))
  refine ⟨h1, ⟨(ro 19 (by omega) (by omega)).trans j1, j2⟩, ⟨r20.trans e1.symm, 1, by omega, by omega, e1⟩, ⟨r21, hv⟩, fun j hj => ?_, ?_, ?_, ?_, a5, ?_, ?_, ?_⟩
  · rw [Nat.add_assoc, ro _ (by omega) (by omega), ← Nat.add_assoc]; exact a1 j hj
  · show s 3 = _; rw [hc 91 _ (by omega) (by omega)]; exact a2
  · show s 4 = _; rw [ro 102 (by omega) (by omega)]; exact a3
  · show s 5 = _; rw [hc 105 _ (by omega) (by omega)]; exact a4
  · show s 6 = smT F (256 * k + 109) (min (b - 19) (byS s ln)); rw [hc 109 _ (by omega) (by omega)]; exact a6
  · show s 7 = crcT F (256 * k + 90) (min b (19 + byS s ln)); rw [hcr _ (by omega)]; exact a7
  · show s 8 = smT F (256 * k + 109 + byS s ln) (b - (19 + byS s ln)); rw [Nat.add_assoc, hc _ _ (by omega) (by omega), ← Nat.add_assoc]; exact a8
/-- a stuff bit is as it must be -/
theorem sim_stuff {f : Nat → Int32} {k q b ln : Nat} {x : NS} {V : List pqE} {sm : Int32} (h : relV f k q x V) (hp : x.ph = 4) (hS : rS f k x.s b ln) (h22 : f (256 * k + 22) = -1) (h9 : x.s 9 = 0) (hv : sm = 0 ∨ sm = 1) (hne : ¬ sm = x.s 0) (hO : ¬ x.g 2 = 0 → ∃ ca d lw, x.cu = some ca ∧ (ca, d) ∈ V ∧ rO f k b d lw) :
    relV (T_stE f k sm 1 (f (256 * k + 21))) k q (x.ph, x.cu, x.g, smSee x.s sm, x.e, x.W, x.R, x.C, x.ad) V := by
  have e := hS.see hv hne
  have e2 : (if (1 : Int32) = 0 ∧ sm = f (256 * k + 21) then f (256 * k + 20) + 1 else 1) = 1 := if_neg (fun z => absurd z.1 (by decide))
  obtain ⟨r1, r2, r3⟩ := sim_stE (F := f) (k := k) (b := b) (ln := ln) (s := smSee x.s sm) (sm := sm) (xs := 1) (la := f (256 * k + 21)) (by rw [e2]; exact e) h22 h9
  refine sim_stay h hp r1 r2 (fun c hc hc2 => r3 c (by omega) (by omega) (by omega)) (fun z => ?_)
  obtain ⟨ca, d, lw, o1, o2, o3⟩ := hO z
  exact ⟨ca, d, lw, o1, o2, o3.fr (fun c hc => r3 c (by omega) (by omega) (by omega))⟩
theorem nI_sh : ∀ m, m < 8 → ∀ b, b < 2 → (nI m <<< ((1 : Int32) &&& 31)) ||| nI b = nI (2 * m + b) := by decide +kernel
theorem bit_n {x : Int32} (h : x = 0 ∨ x = 1) : ∃ b, b < 2 ∧ x = nI b := by
  rcases h with rfl | rfl
  · exact ⟨0, by omega, rfl⟩
  · exact ⟨1, by omega, rfl⟩
theorem sm4 {f : Nat → Int32} {a : Nat} (h : ∀ j, j < 4 → f (a + j) = 0 ∨ f (a + j) = 1) : ∃ m, m < 16 ∧ smT f a 4 = nI m := by
  have key : ∀ n, n ≤ 4 → ∃ m, m < 2 ^ n ∧ smT f a n = nI m := by
    intro n
    induction n with
    | zero => intro _; exact ⟨0, by decide, rfl⟩
    | succ n ih =>
      intro hn
      obtain ⟨m, h1, h2⟩ := ih (by omega)
      obtain ⟨b, h3, h4⟩ := bit_n (h n (by omega))
      have h5 : 2 ^ n ≤ 8 := Nat.le_trans (Nat.pow_le_pow_right (show 0 < 2 by omega) (show n ≤ 3 by omega)) (by decide)
      refine ⟨2 * m + b, by rw [Nat.pow_succ]; omega, ?_⟩
      rw [smT_s rfl, h2, h4]
      exact nI_sh m (by omega) b h3
  exact key 4 (by omega)
theorem own_len {f : Nat → Int32} {a lw : Nat} {id da : Int32} {rm : Bool} (hl : lw ≤ 4) (h : ∀ j, j < 4 → f (a + j) = frBT id rm lw da (15 + j)) : smT f a 4 = nI lw := by
  have e : ∀ j, j < 4 → frBT id rm lw da (15 + j) = nI lw >>> ((18 - nI (15 + j)) &&& 31) &&& 1 := by
    intro j hj
    unfold frBT frB0
    rw [if_pos (by omega), if_neg (by omega), if_neg (by omega), if_neg (by omega), if_neg (by omega), if_pos (by omega)]
  have e0 := (h 0 (by omega)).trans (e 0 (by omega))
  have e1 := (h 1 (by omega)).trans (e 1 (by omega))
  have e2 := (h 2 (by omega)).trans (e 2 (by omega))
  have e3 := (h 3 (by omega)).trans (e 3 (by omega))
  show (((((((0 : Int32) <<< ((1 : Int32) &&& 31)) ||| f (a + 0)) <<< ((1 : Int32) &&& 31)) ||| f (a + 1)) <<< ((1 : Int32) &&& 31)) ||| f (a + 2)) <<< ((1 : Int32) &&& 31) ||| f (a + 3) = nI lw
  rw [e0, e1, e2, e3]
  rcases (show lw = 0 ∨ lw = 1 ∨ lw = 2 ∨ lw = 3 ∨ lw = 4 by omega) with rfl | rfl | rfl | rfl | rfl <;> decide
theorem own_rm {id da : Int32} {rm : Bool} {lw : Nat} : frBT id rm lw da 12 = bI rm := by
  unfold frBT frB0
  rw [if_pos (by omega), if_neg (by omega), if_neg (by omega), if_pos rfl]
theorem rO.by {f : Nat → Int32} {k b ln lw : Nat} {s : Nat → Int32} {d : frD} (hO : rO f k b d lw) (hS : rS f k s b ln) (hb : 19 ≤ b) : ln = lw ∧ byS s ln = byF d.2.1 lw := by
  obtain ⟨⟨-, l4⟩, -, -, o4⟩ := hO
  obtain ⟨⟨i1, i2, i3⟩, -, -, -, a1, -, a3, a4, a5, -⟩ := hS
  have e5 := a5 hb
  rw [a4, show min (b - 15) 4 = 4 by omega, own_len l4 (fun j hj => by have := o4 (15 + j) (by omega); rw [show 256 * k + 90 + (15 + j) = 256 * k + 105 + j by omega] at this; exact this)] at e5
  have e := (nI_eq (by omega) (by omega)).mp e5
  refine ⟨e.symm, ?_⟩
  rw [if_pos (by omega)] at a3
  have o := o4 12 (by omega)
  rw [show 256 * k + 90 + 12 = 256 * k + 102 by omega, own_rm] at o
  unfold byS byF
  rw [a3, o, e]
  cases d.2.1 <;> rfl
/-- a bit of the stuffed part that is none of stuffing -/
theorem sim_stC {f : Nat → Int32} {k q b ln : Nat} {x : NS} {V : List pqE} {sm pl ol : Int32} (hk : k < 4) (h : relV f k q x V) (hp : x.ph = 4) (hS : rS f k x.s b ln) (hlt : b < 19 ∨ b < 34 + byS x.s ln) (h5 : ¬ x.s 1 = 5) (h22 : f (256 * k + 22) = -1) (h9 : x.s 9 = 0) (hv : sm = 0 ∨ sm = 1) (hpl : f 1025 = pl) (hol : f 1026 = ol)
    (hO : ¬ x.g 2 = 0 → ∃ ca d lw, x.cu = some ca ∧ (ca, d) ∈ V ∧ rO f k b d lw ∧ sm = frBT d.1 d.2.1 lw d.2.2.2.1 b) :
    ((x.g 2 = 0 ∧ cWr x.s sm) → relV (T_stC f k sm (f (256 * k + 21)) b) k (q + 1) (cFailP x.g 4 pl ol, x.cu, cFailG x.g 4 pl ol, smTake (smSee x.s sm) sm, cFailE x.e 4, x.W, x.R, x.C, x.ad) V) ∧
    (¬ (x.g 2 = 0 ∧ cWr x.s sm) → relV (T_stC f k sm (f (256 * k + 21)) b) k (q + 1) (x.ph, x.cu, x.g, smTake (smSee x.s sm) sm, x.e, x.W, x.R, x.C, x.ad) V) := by
  have hby := byS_le (s := x.s) hS.1.2.2
  have hb := hS.1.2.1
  obtain ⟨F1, e1⟩ : ∃ z, z = upd f (256 * k + b + 90) sm := ⟨_, rfl⟩
  obtain ⟨F2, e2⟩ : ∃ z, z = upd F1 (256 * k + 19) (F1 (256 * k + 19) + 1) := ⟨_, rfl⟩
  have eT : T_stC f k sm (f (256 * k + 21)) b = if ¬ F2 (256 * k + 1) = 1 ∧ ((b = 13 ∧ sm = 1) ∨ (b = 18 ∧ ¬ smT F2 (256 * k + 15 + 90) 4 ≤ 4)) then T_errs F2 k 4 else T_stE F2 k sm 0 (f (256 * k + 21)) := by rw [e2, e1]; rfl
  have r19 : F2 (256 * k + 19) = nI (b + 1) := by
    rw [e2]
    refine pk_us.trans ?_
    rw [e1, pk_un (by omega), hS.2.1.1]
    exact nI_1 b
  have rb : F2 (256 * k + 90 + b) = sm := by
    rw [e2, pk_un (by omega), e1, show 256 * k + 90 + b = 256 * k + b + 90 by omega]
    exact pk_us
  have ro : ∀ c, c ≠ 19 → c ≠ 90 + b → F2 (256 * k + c) = f (256 * k + c) := fun c a1 a2 => by rw [e2, pk_un (by omega), e1]; exact pk_un (by omega)
  have rg : ∀ c, 1024 ≤ c → F2 c = f c := fun c a1 => by rw [e2, pk_un (by omega), e1]; exact pk_un (by omega)
  have rbits : ∀ j, j < b → F2 (256 * k + 90 + j) = f (256 * k + 90 + j) := fun j hj => by rw [Nat.add_assoc]; exact ro _ (by omega) (by omega)
  have hP := h.2.2.1
  have hf1 : f (256 * k + 1) = x.g 2 := by have := hP.2.2.1; rw [hp, if_pos (by omega)] at this; exact this
  have hg2 := hP.2.1
  have hF1 : F2 (256 * k + 1) = x.g 2 := (ro 1 (by omega) (by omega)).trans hf1
  have hn1 : ¬ F2 (256 * k + 1) = 1 ↔ x.g 2 = 0 := by
    rw [hF1]
    rcases hg2 with z | z <;> rw [z] <;> decide
  have h18 : b = 18 → smTake (smSee x.s sm) sm 5 = smT F2 (256 * k + 105) 4 := by
    intro z
    subst z
    obtain ⟨s', es, -, -, -, -, -, t5, -⟩ := take_rd (v := sm) hS.2.1.2 (by omega)
    rw [← es, t5, if_pos (by omega), hS.2.2.2.2.2.2.2.1, smT_s (n := 3) rfl, show min (18 - 15) 4 = 3 from rfl]
    rw [smT_c (F := F2) (f := f) (b := 256 * k + 105) (n := 3) (fun j hj => by rw [Nat.add_assoc]; exact ro _ (by omega) (by omega))]
    rw [show 256 * k + 105 + 3 = 256 * k + 90 + 18 by omega, rb]
  have c18 : (x.s 2 = 18) ↔ b = 18 := by rw [hS.2.1.2]; exact nI_eq (b := 18) (by omega) (by decide)
  have c13 : (x.s 2 = 13) ↔ b = 13 := by rw [hS.2.1.2]; exact nI_eq (b := 13) (by omega) (by decide)
  have hwr : cWr x.s sm ↔ ((b = 13 ∧ sm = 1) ∨ (b = 18 ∧ ¬ smT F2 (256 * k + 15 + 90) 4 ≤ 4)) := by
    show ((x.s 2 = 18 ∧ 4 < smTake (smSee x.s sm) sm 5) ∨ (x.s 2 = 13 ∧ sm = 1)) ↔ _
    rw [c18, c13, show 256 * k + 15 + 90 = 256 * k + 105 by omega]
    constructor
    · rintro (⟨z1, z2⟩ | z)
      · rw [h18 z1] at z2; exact Or.inr ⟨z1, Int32.not_le.mpr z2⟩
      · exact Or.inl z
    · rintro (z | ⟨z1, z2⟩)
      · exact Or.inr z
      · rw [← h18 z1] at z2; exact Or.inl ⟨z1, Int32.not_le.mp z2⟩
  rw [eT]
  constructor
  · rintro ⟨g0, w⟩
    rw [if_pos ⟨hn1.mpr g0, hwr.mp w⟩]
    have s4 : smTake (smSee x.s sm) sm 4 = 0 ∨ smTake (smSee x.s sm) sm 4 = 1 := by
      obtain ⟨s', es, -, -, -, -, t4, -⟩ := take_rd (v := sm) hS.2.1.2 (by omega)
      rw [← es, t4]
      split
      · split
        · exact Or.inr rfl
        · exact Or.inl rfl
      · exact hS.s4
    have hK := h.1.fr2 (F := F2) (p := x.ph) (cu := x.cu) s4 ⟨b + 1, by omega, r19⟩ (fun c hc => ro c (by omega) (by omega))
    exact sim_errs (x := (x.ph, x.cu, x.g, smTake (smSee x.s sm) sm, x.e, x.W, x.R, x.C, x.ad)) hk (by omega) (by omega) hK hF1 hg2 ((rg 1025 (by omega)).trans hpl) ((rg 1026 (by omega)).trans hol)
  · intro hn
    rw [if_neg (fun z => hn ⟨hn1.mp z.1, hwr.mpr z.2⟩)]
    have hbit : ∀ j, j < b + 1 → F2 (256 * k + 90 + j) = 0 ∨ F2 (256 * k + 90 + j) = 1 := by
      intro j hj
      by_cases z : j = b
      · subst z; rw [rb]; exact hv
      · rw [rbits j (by omega)]; exact hS.2.2.2.2.1 j (by omega)
    have hO2 : ¬ x.g 2 = 0 → ∃ ca d lw, x.cu = some ca ∧ (ca, d) ∈ V ∧ rO F2 k (b + 1) d lw := by
      intro z
      obtain ⟨ca, d, lw, o1, o2, o3, o4⟩ := hO z
      have hbF : b + 1 ≤ 34 + byF d.2.1 lw := by
        by_cases y : 19 ≤ b
        · obtain ⟨-, y2⟩ := o3.by hS y; omega
        · omega
      have hbl := byF_le (rm := d.2.1) o3.1.2
      refine ⟨ca, d, lw, o1, o2, o3.1, hbF, fun p hp => ?_, fun j hj => ?_⟩
      · rw [Nat.add_assoc, ro _ (by omega) (by omega), ← Nat.add_assoc]; exact o3.2.2.1 p hp
      · by_cases y : j = b
        · subst y; rw [rb]; exact o4
        · rw [rbits j (by omega)]; exact o3.2.2.2 j (by omega)
    obtain ⟨ln', l1, l2, l3⟩ : ∃ ln', ln' ≤ 4 ∧ (19 ≤ b → ln' = ln) ∧ (b = 18 → smTake (smSee x.s sm) sm 5 = nI ln') := by
      by_cases y : b = 18
      · have hm := sm4 (f := F2) (a := 256 * k + 105) (fun j hj => by have := hbit (15 + j) (by omega); rw [show 256 * k + 90 + (15 + j) = 256 * k + 105 + j by omega] at this; exact this)
        obtain ⟨m, m1, m2⟩ := hm
        refine ⟨m, ?_, fun z => by omega, fun _ => (h18 y).trans m2⟩
        by_cases g0 : x.g 2 = 0
        · have hw : ¬ cWr x.s sm := fun z => hn ⟨g0, z⟩
          rw [hwr, show 256 * k + 15 + 90 = 256 * k + 105 by omega] at hw
          have hle : smT F2 (256 * k + 105) 4 ≤ 4 := Decidable.byContradiction (fun z => hw (Or.inr ⟨y, z⟩))
          rw [m2] at hle
          exact (nI_leI (b := 4) (by omega) (by decide)).mp hle
        · obtain ⟨ca, d, lw, o1, o2, o3⟩ := hO2 g0
          have e := own_len (f := F2) (a := 256 * k + 105) o3.1.2 (fun j hj => by have := o3.2.2.2 (15 + j) (by omega); rw [show 256 * k + 90 + (15 + j) = 256 * k + 105 + j by omega] at this; exact this)
          have := (nI_eq (by omega) (by have := o3.1.2; omega)).mp (m2.symm.trans e)
          have := o3.1.2
          omega
      · exact ⟨ln, hS.1.2.2, fun _ => rfl, fun z => absurd z y⟩
    have h20 : F2 (256 * k + 20) = x.s 1 := (ro 20 (by omega) (by omega)).trans hS.2.2.1.1
    have h21 : f (256 * k + 21) = x.s 0 := hS.2.2.2.1.1
    have hX : rS (upd (upd F2 (256 * k + 20) (if (0 : Int32) = 0 ∧ sm = f (256 * k + 21) then F2 (256 * k + 20) + 1 else 1)) (256 * k + 21) sm) k (smTake (smSee x.s sm) sm) (b + 1) ln' := by
      refine hS.take hv h5 hlt l1 l2 l3 ?_ ?_ pk_us ?_ (fun j hj => ?_)
      · rw [pk_un (by omega), pk_un (by omega)]; exact r19
      · rw [pk_un (by omega), pk_us, h20, h21]
        by_cases z : sm = x.s 0
        · rw [if_pos ⟨rfl, z⟩, if_pos z]
        · rw [if_neg (fun y => z y.2), if_neg z]
      · rw [pk_un (by omega), pk_un (by omega)]; exact rb
      · rw [pk_un (by omega), pk_un (by omega)]; exact rbits j hj
    have s9 : smTake (smSee x.s sm) sm 9 = 0 := by
      obtain ⟨s', es, -, -, -, -, -, -, -, -, -, t9⟩ := take_rd (v := sm) hS.2.1.2 (by omega)
      rw [← es, t9]; exact h9
    obtain ⟨z1, z2, z3⟩ := sim_stE hX ((ro 22 (by omega) (by omega)).trans h22) s9
    refine (sim_stay h hp z1 z2 (fun c hc hc2 => (z3 c (by omega) (by omega) (by omega)).trans (ro c (by omega) (by omega))) (fun z => ?_)).mono (by omega)
    obtain ⟨ca, d, lw, o1, o2, o3⟩ := hO2 z
    exact ⟨ca, d, lw, o1, o2, o3.fr (fun c hc => z3 c (by omega) (by omega) (by omega))⟩
