/-! a bit time of the stuffed part -/
set_option maxRecDepth 100000
theorem rP.phN {f : Nat → Int32} {k ph : Nat} {g : Nat → Int32} (h : rP f k ph g) : nPh f k = ph := by
  unfold nPh
  rw [h.1.1]
  exact nI_clamp (by have := h.1.2; omega)
theorem rS.bN {f : Nat → Int32} {k b ln : Nat} {s : Nat → Int32} (h : rS f k s b ln) : nB f k = b := by
  have hby := byS_le (s := s) h.1.2.2
  have hb := h.1.2.1
  unfold nB
  rw [h.2.1.1]
  exact nI_clamp (by omega)
theorem rP.f1 {f : Nat → Int32} {k ph : Nat} {g : Nat → Int32} (h : rP f k ph g) (h4 : 4 ≤ ph) (h8 : ph ≤ 8) : f (256 * k + 1) = g 2 := by
  have := h.2.2.1
  rw [if_pos ⟨h4, h8⟩] at this
  exact this
theorem drv_t {f : Nat → Int32} {k q b ln : Nat} {x : NS} {V : List pqE} (h : relV f k q x V) (hp : x.ph = 4) (hg : x.g 2 = 1) (hS : rS f k x.s b ln) (h22 : f (256 * k + 22) = -1) : T_drv f k = if x.s 1 = 5 then 1 - x.s 0 else f (256 * k + b + 160) := by
  have hP := h.2.2.1
  unfold T_drv T_drives T_drvF
  rw [hP.phN, hp, if_neg (by omega), if_pos rfl, hP.f1 (by omega) (by omega), if_pos hg, h22, if_neg (by decide), hS.2.2.1.1, hS.2.2.2.1.1]
  have : (f (256 * k + 19)).toNatClampNeg = b := hS.bN
  rw [this]
theorem bit01 {x y : Int32} (hx : x = 0 ∨ x = 1) (hy : y = 0 ∨ y = 1) : (x = 1 - y) ↔ ¬ x = y := by
  rcases hx with rfl | rfl <;> rcases hy with rfl | rfl <;> decide
theorem sim_stuffed {f : Nat → Int32} {k q : Nat} {x : NS} {V : List pqE} {sm pl ol : Int32} (hk : k < 4) (h : relV f k q x V) (hp : x.ph = 4) (hst : smStfB x.s = true) (hv : sm = 0 ∨ sm = 1) (hpl : f 1025 = pl) (hol : f 1026 = ol) (hd : f (256 * k + 26) = T_drv f k) :
    relV (T_stuffed f k sm (nB f k)) k (q + 1) (cStP x.g x.s x.ph sm pl ol, x.cu, cStG x.g x.s sm pl ol, cStS x.g x.s sm, cStE x.g x.s x.e sm, x.W, x.R, x.C, x.ad) V := by
  have hK := h.1
  have hP := h.2.2.1
  obtain ⟨b, ln, hS, hT, hO⟩ := h.2.2.2 hp
  have hby := byS_le (s := x.s) hS.1.2.2
  have hb := hS.1.2.1
  have hf1 : f (256 * k + 1) = x.g 2 := hP.f1 (by omega) (by omega)
  have hg2 := hP.2.1
  have h20 := hS.2.2.1.1
  have h21 := hS.2.2.2.1.1
  have hs0 := hS.2.2.2.1.2
  have h26 : f (256 * k + 26) = x.g 9 := hK.1.2.2.2.2.2.2.2.2.2.2.2.1
  have hg9 : x.g 9 = T_drv f k := h26.symm.trans hd
  have hst' := (stf_iff hS).mp hst
  obtain ⟨h22, h9⟩ : f (256 * k + 22) = -1 ∧ x.s 9 = 0 := by
    rcases hT with ⟨-, a, b⟩ | ⟨a1, a2, a3, -⟩
    · exact ⟨a, b⟩
    · rcases hst' with z | z | z
      · omega
      · omega
      · exact absurd z a3
  have fail : ∀ kd, 1 ≤ kd → kd ≤ 5 → relV (T_errs f k kd) k (q + 1) (cFailP x.g kd pl ol, x.cu, cFailG x.g kd pl ol, x.s, cFailE x.e kd, x.W, x.R, x.C, x.ad) V := fun kd a b => sim_errs hk a b hK hf1 hg2 hpl hol
  rw [hS.bN]
  unfold T_stuffed cStP cStG cStS cStE
  rw [h20, h21, hf1, h26]
  by_cases h5 : x.s 1 = 5
  · simp only [if_pos h5]
    rcases hg2 with g0 | g1
    · have n1 : ¬ x.g 2 = 1 := by rw [g0]; decide
      simp only [if_pos g0, if_neg (fun (z : x.g 2 = 1 ∧ ¬ sm = x.g 9) => n1 z.1)]
      by_cases e : sm = x.s 0
      · have ne : ¬ sm = 1 - x.s 0 := fun z => (bit01 hv hs0).mp z e
        simp only [if_neg ne, if_pos (show ¬ x.g 2 = 1 ∧ sm = x.s 0 from ⟨n1, e⟩)]
        exact fail 2 (by omega) (by omega)
      · have ye : sm = 1 - x.s 0 := (bit01 hv hs0).mpr e
        simp only [if_pos ye, if_neg (fun (z : ¬ x.g 2 = 1 ∧ sm = x.s 0) => e z.2)]
        rw [← h21]
        exact (sim_stuff h hp hS h22 h9 hv e (fun z => absurd g0 z)).mono (by omega)
    · have n0 : ¬ x.g 2 = 0 := by rw [g1]; decide
      simp only [if_neg n0]
      have e9 : x.g 9 = 1 - x.s 0 := by rw [hg9, drv_t h hp g1 hS h22, if_pos h5]
      by_cases e : sm = x.g 9
      · simp only [if_pos e, if_neg (fun (z : x.g 2 = 1 ∧ ¬ sm = x.g 9) => z.2 e), if_neg (fun (z : ¬ x.g 2 = 1 ∧ sm = x.s 0) => z.1 g1)]
        rw [← h21]
        exact (sim_stuff h hp hS h22 h9 hv ((bit01 hv hs0).mp (e.trans e9)) hO).mono (by omega)
      · simp only [if_neg e, if_pos (show x.g 2 = 1 ∧ ¬ sm = x.g 9 from ⟨g1, e⟩)]
        exact fail 1 (by omega) (by omega)
  · simp only [if_neg h5]
    have hlt : b < 19 ∨ b < 34 + byS x.s ln := by
      rcases hst' with z | z | z
      · exact Or.inl z
      · exact Or.inr z
      · exact absurd z h5
    rcases hg2 with g0 | g1
    · have n1 : ¬ x.g 2 = 1 := by rw [g0]; decide
      simp only [if_pos g0, if_neg (fun (z : x.g 2 = 1 ∧ ¬ sm = x.g 9) => n1 z.1)]
      obtain ⟨A, B⟩ := sim_stC (pl := pl) (ol := ol) hk h hp hS hlt h5 h22 h9 hv hpl hol (fun z => absurd g0 z)
      rw [h21] at A B
      by_cases w : cWr x.s sm
      · simp only [if_pos w]; exact A ⟨g0, w⟩
      · simp only [if_neg w]; exact B (fun z => w z.2)
    · have n0 : ¬ x.g 2 = 0 := by rw [g1]; decide
      simp only [if_neg n0]
      have e9 : x.g 9 = f (256 * k + b + 160) := by rw [hg9, drv_t h hp g1 hS h22, if_neg h5]
      by_cases e : sm = x.g 9
      · simp only [if_pos e, if_neg (fun (z : x.g 2 = 1 ∧ ¬ sm = x.g 9) => z.2 e)]
        obtain ⟨A, B⟩ := sim_stC (pl := pl) (ol := ol) hk h hp hS hlt h5 h22 h9 hv hpl hol (fun _ => by
          obtain ⟨ca, d, lw, o1, o2, o3⟩ := hO n0
          refine ⟨ca, d, lw, o1, o2, o3, ?_⟩
          rw [e, e9]
          refine o3.2.2.1 b ?_
          by_cases y : 19 ≤ b
          · obtain ⟨-, y2⟩ := o3.by hS y; omega
          · omega)
        rw [h21] at B
        exact B (fun z => n0 z.1)
      · simp only [if_neg e, if_pos (show x.g 2 = 1 ∧ ¬ sm = x.g 9 from ⟨g1, e⟩)]
        by_cases s1 : sm = 1
        · simp only [if_pos s1, if_pos (show sm = 1 ∨ ¬ (1 ≤ nI b ∧ nI b ≤ 12) from Or.inl s1)]
          exact fail 1 (by omega) (by omega)
        · have cb1 : (1 ≤ nI b) ↔ 1 ≤ b := nI_leI (a := 1) (by decide) (by omega)
          have cb2 : (nI b ≤ 12) ↔ b ≤ 12 := nI_leI (b := 12) (by omega) (by decide)
          have cs : (x.s 2 ≤ 12) ↔ b ≤ 12 := by rw [hS.2.1.2]; exact cb2
          by_cases b12 : b ≤ 12
          · simp only [if_neg s1, if_pos (cs.mpr b12), if_neg (fun (z : sm = 1 ∨ ¬ (1 ≤ nI b ∧ nI b ≤ 12)) => z.elim s1 (fun y => y ⟨cb1.mpr hS.1.1, cb2.mpr b12⟩))]
            obtain ⟨F, eF⟩ : ∃ z, z = T_rel (upd (upd f (256 * k + 1) 0) (256 * k + 12) (upd f (256 * k + 1) 0 (256 * k + 12) + 1)) k := ⟨_, rfl⟩
            rw [← eF]
            have rf : ∀ c, c = 34 ∨ c = 39 ∨ c = 44 ∨ c = 49 → F (256 * k + c) = 0 := fun c hc => by rw [eF]; exact rel_f hc
            have r1 : F (256 * k + 1) = 0 := by rw [eF, rel_o (by omega) (by omega) (by omega) (by omega)]; exact (pk_un (by omega)).trans pk_us
            have r12 : F (256 * k + 12) = f (256 * k + 12) + 1 := by rw [eF, rel_o (by omega) (by omega) (by omega) (by omega)]; refine pk_us.trans ?_; rw [pk_un (by omega)]
            have ro : ∀ c, c ≠ 1 → c ≠ 12 → c ≠ 34 → c ≠ 39 → c ≠ 44 → c ≠ 49 → F (256 * k + c) = f (256 * k + c) := fun c a1 a2 a3 a4 a5 a6 => by rw [eF, rel_o a3 a4 a5 a6]; exact (pk_un (by omega)).trans (pk_un (by omega))
            have rg : ∀ c, 1024 ≤ c → F c = f c := fun c hc => by
              rw [eF]
              unfold T_rel
              exact (pk_un (by omega)).trans ((pk_un (by omega)).trans ((pk_un (by omega)).trans ((pk_un (by omega)).trans ((pk_un (by omega)).trans (pk_un (by omega))))))
            have r0 : F (256 * k) = f (256 * k) := ro 0 (by omega) (by omega) (by omega) (by omega) (by omega) (by omega)
            obtain ⟨c1, c2, c3, c4, c5, c6, c7⟩ := hK
            have hC : rC F k q (cLose x.g) x.e := by
              obtain ⟨a1, a2, a3, a4, a5, a6, a7, a8, a9, a10, a11, a12⟩ := c1
              have u4 := ro 4 (by omega) (by omega) (by omega) (by omega) (by omega) (by omega)
              have u5 := ro 5 (by omega) (by omega) (by omega) (by omega) (by omega) (by omega)
              have u14 := ro 14 (by omega) (by omega) (by omega) (by omega) (by omega) (by omega)
              have ul : T_last F k = T_last f k := by unfold T_last; rw [ro 11 (by omega) (by omega) (by omega) (by omega) (by omega) (by omega)]
              refine ⟨by rw [u4]; exact a1, by rw [u5]; exact a2, fun j y1 y2 => ?_, ul.trans a4, by rw [r12, a5]; rfl, by rw [u14]; exact a6, by rw [ro 15 (by omega) (by omega) (by omega) (by omega) (by omega) (by omega)]; exact a7, by rw [ro 16 (by omega) (by omega) (by omega) (by omega) (by omega) (by omega)]; exact a8, by rw [ro 17 (by omega) (by omega) (by omega) (by omega) (by omega) (by omega)]; exact a9, by rw [ro 18 (by omega) (by omega) (by omega) (by omega) (by omega) (by omega)]; exact a10, a11, by rw [ro 26 (by omega) (by omega) (by omega) (by omega) (by omega) (by omega)]; exact a12⟩
              rw [Nat.add_assoc, ro _ (by omega) (by omega) (by omega) (by omega) (by omega) (by omega), ← Nat.add_assoc]
              exact a3 j y1 y2
            have h' : relV F k q (x.ph, x.cu, cLose x.g, x.s, x.e, x.W, x.R, x.C, x.ad) V := by
              refine ⟨⟨hC, by rw [ro 13 (by omega) (by omega) (by omega) (by omega) (by omega) (by omega)]; exact c2, c3.fr (fun c hc => ro c (by omega) (by omega) (by omega) (by omega) (by omega) (by omega)), c4.fr (fun c hc => ro c (by omega) (by omega) (by omega) (by omega) (by omega) (by omega)), c5.fr (fun c hc => ro c (by omega) (by omega) (by omega) (by omega) (by omega) (by omega)), c6, by rw [ro 19 (by omega) (by omega) (by omega) (by omega) (by omega) (by omega)]; exact c7⟩, ?_, ⟨⟨r0.trans hP.1.1, hP.1.2⟩, Or.inl rfl, ?_, (ro 2 (by omega) (by omega) (by omega) (by omega) (by omega) (by omega)).trans hP.2.2.2.1, fun z => absurd (hp.symm.trans z) (by omega), fun z => absurd (hp.symm.trans z) (by omega), fun z => absurd (hp.symm.trans z) (by omega)⟩, fun _ => ⟨b, ln, hS.fr (fun c hc => ro c (by omega) (by omega) (by omega) (by omega) (by omega) (by omega)), hT.fr (ro 22 (by omega) (by omega) (by omega) (by omega) (by omega) (by omega)), fun z => absurd rfl z⟩⟩
              · have e : nSnd (x.ph, x.cu, cLose x.g, x.s, x.e, x.W, x.R, x.C, x.ad) = none := if_neg (fun z => z.2 rfl)
                rw [e]
                exact rF.none c3.2.2.2.2.1 rf
              · show F (256 * k + 1) = if 4 ≤ x.ph ∧ x.ph ≤ 8 then 0 else 0
                rw [r1]; split <;> rfl
            have hS' := hS.fr (F := F) (fun c hc => ro c (by omega) (by omega) (by omega) (by omega) (by omega) (by omega))
            have r21 : F (256 * k + 21) = x.s 0 := (ro 21 (by omega) (by omega) (by omega) (by omega) (by omega) (by omega)).trans h21
            obtain ⟨A, B⟩ := sim_stC (x := (x.ph, x.cu, cLose x.g, x.s, x.e, x.W, x.R, x.C, x.ad)) (pl := pl) (ol := ol) hk h' hp hS' hlt h5 ((ro 22 (by omega) (by omega) (by omega) (by omega) (by omega) (by omega)).trans h22) h9 hv ((rg 1025 (by omega)).trans hpl) ((rg 1026 (by omega)).trans hol) (fun z => absurd rfl z)
            rw [r21] at A B
            by_cases w : cWr x.s sm
            · simp only [if_pos w]; exact A ⟨rfl, w⟩
            · simp only [if_neg w]; exact B (fun z => w z.2)
          · simp only [if_neg s1, if_neg (fun z => b12 (cs.mp z)), if_pos (show sm = 1 ∨ ¬ (1 ≤ nI b ∧ nI b ≤ 12) from Or.inr (fun y => b12 (cb2.mp y.2)))]
            exact fail 1 (by omega) (by omega)
