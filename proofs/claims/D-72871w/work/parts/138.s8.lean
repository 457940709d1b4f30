/-! waiting frames: one comes, one goes -/
set_option maxRecDepth 100000
theorem cpT_rd {f : Nat → Int32} {d a : Nat} (hd : 1 ≤ d) : ∀ (n c : Nat), cpT f d a n c = if a ≤ c ∧ c < a + n then f (c + d) else f c
  | 0, c => by rw [if_neg (by omega)]; rfl
  | n + 1, c => by
    show upd (cpT f d a n) (a + n) (cpT f d a n (a + n + d)) c = _
    by_cases q : c = a + n
    · subst q
      rw [pk_us, cpT_rd hd n, if_neg (by omega), if_pos (by omega)]
    · rw [pk_un q, cpT_rd hd n]
      by_cases z : a ≤ c ∧ c < a + n
      · rw [if_pos z, if_pos (by omega)]
      · rw [if_neg z, if_neg (by omega)]
theorem unw_o {f : Nat → Int32} {k ix nw c : Nat} (h1 : ix ≤ 3) (h2 : nw ≤ 3) (hc : c ≠ 23) (hc2 : c < 30 ∨ 50 ≤ c) : T_unw f k ix nw (256 * k + c) = f (256 * k + c) := by
  unfold T_unw
  rw [pk_un (by omega), pk_un (by omega), cpT_rd (by omega), if_neg (by omega)]
theorem unw_g {f : Nat → Int32} {k ix nw c : Nat} (hk : k < 4) (h1 : ix ≤ 3) (h2 : nw ≤ 3) (hc : 1024 ≤ c) : T_unw f k ix nw c = f c := by
  unfold T_unw
  rw [pk_un (by omega), pk_un (by omega), cpT_rd (by omega), if_neg (by omega)]
theorem unw_23 {f : Nat → Int32} {k ix nw : Nat} (h2 : nw ≤ 3) : T_unw f k ix nw (256 * k + 23) = nI nw := by
  unfold T_unw
  rw [pk_un (by omega)]
  exact pk_us
theorem unw_s {f : Nat → Int32} {k ix nw i a : Nat} (h1 : ix ≤ 3) (h2 : nw ≤ 3) (hi : i < 4) (ha : a < 4) : T_unw f k ix nw (256 * k + 5 * i + (30 + a)) = if ix ≤ i ∧ i < 3 then f (256 * k + 5 * (i + 1) + (30 + a)) else f (256 * k + 5 * i + (30 + a)) := by
  unfold T_unw
  rw [pk_un (by omega), pk_un (by omega), cpT_rd (by omega)]
  by_cases z : ix ≤ i ∧ i < 3
  · rw [if_pos z, if_pos (by omega)]
    congr 1; omega
  · rw [if_neg z, if_neg (by omega)]
theorem unw_f {f : Nat → Int32} {k ix nw i : Nat} (h1 : ix ≤ 3) (h2 : nw ≤ 3) (hi : i < nw) : T_unw f k ix nw (256 * k + 5 * i + 34) = if ix ≤ i then f (256 * k + 5 * (i + 1) + 34) else f (256 * k + 5 * i + 34) := by
  unfold T_unw
  rw [pk_un (by omega), pk_un (by omega), cpT_rd (by omega)]
  by_cases z : ix ≤ i
  · rw [if_pos z, if_pos (by omega), show 256 * k + 5 * i + 34 + 5 = 256 * k + 5 * (i + 1) + 34 by omega]
  · rw [if_neg z, if_neg (by omega)]
theorem wE_iff {f : Nat → Int32} {k i : Nat} {e : pqE} : wE f k i e ↔ f (256 * k + 5 * i + (30 + 0)) = e.2.1 ∧ f (256 * k + 5 * i + (30 + 1)) = bI e.2.2.1 ∧ f (256 * k + 5 * i + (30 + 2)) = e.2.2.2.1 ∧ f (256 * k + 5 * i + (30 + 3)) = e.2.2.2.2.1 := Iff.rfl
theorem filt_erase {ca : Nat} : ∀ (V : List pqE) (i : Nat) (d : frD), (V.map Prod.fst).Nodup → V[i]? = some (ca, d) → V.filter (fun e => decide (¬ e.1 = ca)) = V.eraseIdx i
  | [], i, d, _, h => by cases h
  | v :: V, 0, d, hn, h => by
    have h : v = (ca, d) := Option.some.inj h
    subst h
    rw [List.filter_cons_of_neg (by simp)]
    rw [List.map_cons, List.nodup_cons] at hn
    show V.filter _ = V
    refine List.filter_eq_self.mpr (fun e he => ?_)
    refine decide_eq_true (fun z => hn.1 ?_)
    exact List.mem_map.mpr ⟨e, he, z⟩
  | v :: V, i + 1, d, hn, h => by
    rw [List.map_cons, List.nodup_cons] at hn
    have h : V[i]? = some (ca, d) := h
    have hv : ¬ v.1 = ca := fun z => hn.1 (List.mem_map.mpr ⟨(ca, d), List.mem_of_getElem? h, z.symm⟩)
    rw [List.filter_cons_of_pos (by simpa using hv), filt_erase V i d hn.2 h]
    rfl
/-- a frame goes out of the waiting ones -/
theorem rW.erase {f : Nat → Int32} {k q i : Nat} {g : Nat → Int32} {W V W' : List pqE} (h : rW f k q g W V) (hi : i < V.length) (hp : (V.eraseIdx i).Perm W') (hH : pqH W') : rW (T_unw f k i (V.length - 1)) k q g W' (V.eraseIdx i) := by
  obtain ⟨h1, h2, h3, h4, h5, h6, h7, h8, h9, r, a1, a2, a3⟩ := h
  have hl : (V.eraseIdx i).length = V.length - 1 := List.length_eraseIdx_of_lt hi
  have hs : List.Sublist (V.eraseIdx i) V := List.eraseIdx_sublist V i
  refine ⟨hp, h2.sublist hs, hH, h4.sublist (hs.map _), by omega, by rw [unw_23 (by omega), hl], fun j e he => ?_, fun j hj => ?_, fun e he => h9 e (hs.subset he), r, a1, a2, fun e he => a3 e (hs.subset he)⟩
  · have hj : j < (V.eraseIdx i).length := (List.getElem?_eq_some_iff.mp he).1
    rw [List.getElem?_eraseIdx] at he
    by_cases z : j < i
    · rw [if_pos z] at he
      rw [wE_iff, unw_s (by omega) (by omega) (by omega) (by omega), unw_s (by omega) (by omega) (by omega) (by omega), unw_s (by omega) (by omega) (by omega) (by omega), unw_s (by omega) (by omega) (by omega) (by omega), if_neg (by omega), if_neg (by omega), if_neg (by omega), if_neg (by omega)]
      exact h7 j e he
    · rw [if_neg z] at he
      rw [wE_iff, unw_s (by omega) (by omega) (by omega) (by omega), unw_s (by omega) (by omega) (by omega) (by omega), unw_s (by omega) (by omega) (by omega) (by omega), unw_s (by omega) (by omega) (by omega) (by omega), if_pos (by omega), if_pos (by omega), if_pos (by omega), if_pos (by omega)]
      exact h7 (j + 1) e he
  · rw [show 256 * k + 5 * j + 32 = 256 * k + 5 * j + (30 + 2) by omega, unw_s (by omega) (by omega) hj (by omega)]
    by_cases z : i ≤ j ∧ j < 3
    · rw [if_pos z]; exact h8 (j + 1) (by omega)
    · rw [if_neg z]; exact h8 j hj
theorem rF.erase {f : Nat → Int32} {k i : Nat} {V : List pqE} {cs : Option Nat} (h : rF f k V cs) (hV : V.length ≤ 4) (hi : i < V.length) : rF (T_unw f k i (V.length - 1)) k (V.eraseIdx i) cs := by
  have hl : (V.eraseIdx i).length = V.length - 1 := List.length_eraseIdx_of_lt hi
  intro j e he
  have hj : j < (V.eraseIdx i).length := (List.getElem?_eq_some_iff.mp he).1
  rw [List.getElem?_eraseIdx] at he
  rw [unw_f (by omega) (by omega) (by omega)]
  by_cases z : j < i
  · rw [if_pos z] at he
    rw [if_neg (by omega)]; exact h j e he
  · rw [if_neg z] at he
    rw [if_pos (by omega)]; exact h (j + 1) e he
/-- where a new frame comes -/
theorem shT_in {F : Nat → Int32} {k i a : Nat} (ha : a < 5) : shT F k i (256 * k + 5 * (i + 1) + (30 + a)) = F (256 * k + 5 * i + (30 + a)) := by
  unfold shT
  rcases (show a = 0 ∨ a = 1 ∨ a = 2 ∨ a = 3 ∨ a = 4 by omega) with rfl | rfl | rfl | rfl | rfl
  · rw [pk_un (by omega), pk_un (by omega), pk_un (by omega), pk_un (by omega), show 256 * k + 5 * (i + 1) + (30 + 0) = 256 * k + 5 * i + 35 by omega]; exact pk_us
  · rw [pk_un (by omega), pk_un (by omega), pk_un (by omega), show 256 * k + 5 * (i + 1) + (30 + 1) = 256 * k + 5 * i + 36 by omega, pk_us, pk_un (by omega)]
  · rw [pk_un (by omega), pk_un (by omega), show 256 * k + 5 * (i + 1) + (30 + 2) = 256 * k + 5 * i + 37 by omega, pk_us, pk_un (by omega), pk_un (by omega)]
  · rw [pk_un (by omega), show 256 * k + 5 * (i + 1) + (30 + 3) = 256 * k + 5 * i + 38 by omega, pk_us, pk_un (by omega), pk_un (by omega), pk_un (by omega)]
  · rw [show 256 * k + 5 * (i + 1) + (30 + 4) = 256 * k + 5 * i + 39 by omega, pk_us, pk_un (by omega), pk_un (by omega), pk_un (by omega), pk_un (by omega)]
theorem shT_out {F : Nat → Int32} {k i c : Nat} (hc : c < 256 * k + 5 * i + 35 ∨ 256 * k + 5 * i + 40 ≤ c) : shT F k i c = F c := by
  unfold shT
  rw [pk_un (by omega), pk_un (by omega), pk_un (by omega), pk_un (by omega), pk_un (by omega)]
theorem wt_spec {k : Nat} {key : Int32} : ∀ (i : Nat) (F : Nat → Int32), ∃ R j, (R, j) = wtT k key i F ∧ j ≤ i ∧ (∀ m a, m ≤ i → a < 5 → R (256 * k + 5 * m + (30 + a)) = if j < m then F (256 * k + 5 * (m - 1) + (30 + a)) else F (256 * k + 5 * m + (30 + a))) ∧ (∀ c, (c < 256 * k + 30 ∨ 256 * k + 5 * i + 35 ≤ c) → R c = F c) ∧
    (∀ m, m + 1 = j → 2 * F (256 * k + 5 * m + 30) + F (256 * k + 5 * m + 31) ≤ key) ∧ (∀ m, j ≤ m → m < i → key < 2 * F (256 * k + 5 * m + 30) + F (256 * k + 5 * m + 31))
  | 0, F => ⟨F, 0, rfl, Nat.le_refl _, fun m a hm _ => by rw [if_neg (by omega)], fun _ _ => rfl, fun m hm => by omega, fun m h1 h2 => by omega⟩
  | i + 1, F => by
    by_cases q : 2 * F (256 * k + 5 * i + 30) + F (256 * k + 5 * i + 31) ≤ key
    · refine ⟨F, i + 1, by unfold wtT; rw [if_pos q], Nat.le_refl _, fun m a hm _ => by rw [if_neg (by omega)], fun _ _ => rfl, fun m hm => ?_, fun m h1 h2 => by omega⟩
      obtain rfl : m = i := by omega
      exact q
    · obtain ⟨R, j, e, h1, h2, h3, h4, h5⟩ := wt_spec (k := k) (key := key) i (shT F k i)
      have hk : ∀ m, m ≤ i → 2 * shT F k i (256 * k + 5 * m + 30) + shT F k i (256 * k + 5 * m + 31) = 2 * F (256 * k + 5 * m + 30) + F (256 * k + 5 * m + 31) := fun m hm => by rw [shT_out (by omega), shT_out (by omega)]
      refine ⟨R, j, by rw [e]; conv => rhs; unfold wtT; rw [if_neg q], by omega, fun m a hm ha => ?_, fun c hc => ?_, fun m hm => ?_, fun m hm1 hm2 => ?_⟩
      · by_cases z : m = i + 1
        · subst z
          rw [if_pos (by omega), h3 _ (by omega), shT_in ha]
          congr 1
        · rw [h2 m a (by omega) ha]
          by_cases y : j < m
          · rw [if_pos y, if_pos y, shT_out (by omega)]
          · rw [if_neg y, if_neg y, shT_out (by omega)]
      · rw [h3 c (by omega), shT_out (by omega)]
      · rw [← hk m (by omega)]; exact h4 m hm
      · by_cases z : m = i
        · subst z; exact Int32.not_le.mp q
        · rw [← hk m (by omega)]; exact h5 m hm1 (by omega)
theorem ins_get {α : Type} {V : List α} {e d : α} {j m : Nat} (hj : j ≤ V.length) : (V.take j ++ e :: V.drop j)[m]? = some d ↔ (m < j ∧ V[m]? = some d) ∨ (m = j ∧ d = e) ∨ (j < m ∧ V[m - 1]? = some d) := by
  have hl : (V.take j).length = j := by rw [List.length_take]; omega
  rw [List.getElem?_append, hl]
  by_cases h1 : m < j
  · rw [if_pos h1, List.getElem?_take, if_pos h1]
    constructor
    · intro h; exact Or.inl ⟨h1, h⟩
    · rintro (h | h | h)
      · exact h.2
      · omega
      · omega
  · rw [if_neg h1]
    by_cases h2 : m = j
    · subst h2
      rw [Nat.sub_self, List.getElem?_cons_zero]
      constructor
      · intro h; exact Or.inr (Or.inl ⟨rfl, (Option.some.inj h).symm⟩)
      · rintro (h | h | h)
        · omega
        · rw [h.2]
        · omega
    · obtain ⟨n, hn⟩ : ∃ n, m = j + n + 1 := ⟨m - j - 1, by omega⟩
      subst hn
      rw [show j + n + 1 - j = n + 1 by omega, List.getElem?_cons_succ, List.getElem?_drop]
      constructor
      · intro h; exact Or.inr (Or.inr ⟨by omega, by rw [show j + n + 1 - 1 = j + n by omega]; exact h⟩)
      · rintro (h | h | h)
        · omega
        · omega
        · have := h.2; rw [show j + n + 1 - 1 = j + n by omega] at this; exact this
theorem T_waits_e {f : Nat → Int32} {k nw : Nat} {id rm ln da : Int32} : ∃ R j, (R, j) = wtT k (2 * id + rm) nw f ∧ T_waits f k id rm ln da nw = upd (upd (upd (upd (upd (upd R (256 * k + 5 * j + 30) id) (256 * k + 5 * j + 31) rm) (256 * k + 5 * j + 32) ln) (256 * k + 5 * j + 33) da) (256 * k + 5 * j + 34) 0) (256 * k + 23) (upd (upd (upd (upd (upd R (256 * k + 5 * j + 30) id) (256 * k + 5 * j + 31) rm) (256 * k + 5 * j + 32) ln) (256 * k + 5 * j + 33) da) (256 * k + 5 * j + 34) 0 (256 * k + 23) + 1) := ⟨_, _, rfl, rfl⟩
theorem sim_waits {f : Nat → Int32} {k q y : Nat} {g : Nat → Int32} {W V : List pqE} {cs : Option Nat} {id ln da : Int32} {rm : Bool} (hk : k < 4) (hq : q < 1000000) (h : rW f k q g W V) (hF : rF f k V cs) (hV : V.length < 4) (hy : ∀ e ∈ V, e.1 ≠ y) (hcs : ∀ a, cs = some a → ∃ d, (a, d) ∈ V) (hln : ∃ n, n ≤ 4 ∧ ln = nI n) :
    ∃ V', rW (T_waits f k id (bI rm) ln da V.length) k (q + 1) (upd g 17 (g 17 + 1)) (pqAdd W (y, (id, rm, ln, da, g 17))) V' ∧ rF (T_waits f k id (bI rm) ln da V.length) k V' cs ∧ (∀ e ∈ V, e ∈ V') ∧ V'.length = V.length + 1 ∧ (∀ c, c < 256 → c ≠ 23 → (c < 30 ∨ 50 ≤ c) → T_waits f k id (bI rm) ln da V.length (256 * k + c) = f (256 * k + c)) ∧ (∀ c, 1024 ≤ c → T_waits f k id (bI rm) ln da V.length c = f c) := by
  obtain ⟨h1, h2, h3, h4, h5, h6, h7, h8, h9, r, a1, a2, a3⟩ := h
  obtain ⟨R, j, eR, eT⟩ := T_waits_e (f := f) (k := k) (nw := V.length) (id := id) (rm := bI rm) (ln := ln) (da := da)
  obtain ⟨R', j', eR', w1, w2, w3, w4, w5⟩ := wt_spec (k := k) (key := 2 * id + bI rm) V.length f
  obtain ⟨rfl, rfl⟩ : R = R' ∧ j = j' := by have := eR.trans eR'.symm; exact ⟨congrArg Prod.fst this, congrArg Prod.snd this⟩
  obtain ⟨T, hT⟩ : ∃ z, z = T_waits f k id (bI rm) ln da V.length := ⟨_, rfl⟩
  rw [← hT] at eT ⊢
  have hVW : W.length = V.length := h1.length_eq.symm
  -- the cells
  have t23 : T (256 * k + 23) = nI (V.length + 1) := by
    rw [eT, pk_us, pk_un (by omega), pk_un (by omega), pk_un (by omega), pk_un (by omega), pk_un (by omega), w3 _ (by omega), h6]
    exact nI_1 _
  have tj : ∀ a, a < 5 → T (256 * k + 5 * j + (30 + a)) = if a = 0 then id else if a = 1 then bI rm else if a = 2 then ln else if a = 3 then da else 0 := by
    intro a ha
    rw [eT, pk_un (by omega)]
    rcases (show a = 0 ∨ a = 1 ∨ a = 2 ∨ a = 3 ∨ a = 4 by omega) with rfl | rfl | rfl | rfl | rfl
    · exact (pk_un (by omega)).trans ((pk_un (by omega)).trans ((pk_un (by omega)).trans ((pk_un (by omega)).trans pk_us)))
    · exact (pk_un (by omega)).trans ((pk_un (by omega)).trans ((pk_un (by omega)).trans pk_us))
    · exact (pk_un (by omega)).trans ((pk_un (by omega)).trans pk_us)
    · exact (pk_un (by omega)).trans pk_us
    · exact pk_us
  have tm : ∀ m a, m ≠ j → m ≤ V.length → a < 5 → T (256 * k + 5 * m + (30 + a)) = if j < m then f (256 * k + 5 * (m - 1) + (30 + a)) else f (256 * k + 5 * m + (30 + a)) := by
    intro m a hm hm2 ha
    rw [eT, pk_un (by omega), pk_un (by omega), pk_un (by omega), pk_un (by omega), pk_un (by omega), pk_un (by omega)]
    exact w2 m a hm2 ha
  have to : ∀ c, c ≠ 23 → (c < 30 ∨ 5 * V.length + 35 ≤ c) → T (256 * k + c) = f (256 * k + c) := by
    intro c hc hc2
    rw [eT, pk_un (by omega), pk_un (by omega), pk_un (by omega), pk_un (by omega), pk_un (by omega), pk_un (by omega)]
    exact w3 _ (by omega)
  have tg : ∀ c, 1024 ≤ c → T c = f c := by
    intro c hc
    rw [eT, pk_un (by omega), pk_un (by omega), pk_un (by omega), pk_un (by omega), pk_un (by omega), pk_un (by omega)]
    exact w3 _ (by omega)
  obtain ⟨e, he⟩ : ∃ z : pqE, z = (y, (id, rm, ln, da, g 17)) := ⟨_, rfl⟩
  rw [← he]
  have hke : frK e.2 = 2 * id + bI rm := by rw [he]; rfl
  have hkV : ∀ m d, V[m]? = some d → 2 * f (256 * k + 5 * m + 30) + f (256 * k + 5 * m + 31) = frK d.2 := by
    intro m d hd
    obtain ⟨z1, z2, -⟩ := h7 m d hd
    rw [z1, z2]; rfl
  -- the order
  have hnew : ∀ m d, V[m]? = some d → j ≤ m → fLt e d := by
    intro m d hd hm
    have z := w5 m hm (List.getElem?_eq_some_iff.mp hd).1
    rw [hkV m d hd, ← hke, Int32.lt_iff_toInt_lt] at z
    exact fLt_iff.mpr (Or.inl z)
  have hord : ∀ d ∈ V, d.2.2.2.2.2.toInt < e.2.2.2.2.2.toInt := by
    intro d hd
    obtain ⟨o, o1, o2⟩ := a3 d hd
    rw [he]
    show d.2.2.2.2.2.toInt < (g 17).toInt
    rw [o2, a1, nI_toInt (by omega), nI_toInt (by omega)]
    omega
  have hold : ∀ m d, V[m]? = some d → m < j → fLt d e := by
    intro m d hd hm
    have hjl : j - 1 < V.length := by omega
    have hlast : V[j - 1]? = some V[j - 1] := List.getElem?_eq_getElem hjl
    have z := w4 (j - 1) (by omega)
    rw [hkV _ _ hlast, ← hke, Int32.le_iff_toInt_le] at z
    have hle : (frK d.2).toInt ≤ (frK (V[j - 1]).2).toInt := by
      by_cases y : m = j - 1
      · subst y; rw [hlast] at hd; cases hd; exact Int.le_refl _
      · obtain ⟨hm', rfl⟩ := List.getElem?_eq_some_iff.mp hd
        have := List.pairwise_iff_getElem.mp h2 m (j - 1) hm' hjl (by omega)
        rw [fLt_iff] at this
        omega
    have ho := hord d (List.mem_of_getElem? hd)
    rw [fLt_iff]
    omega
  have hcm : ∀ a ∈ W, fCm e a := by
    intro a ha
    obtain ⟨m, hm⟩ := List.getElem?_of_mem (h1.mem_iff.mpr ha)
    by_cases z : j ≤ m
    · exact Or.inl (hnew m a hm z)
    · exact Or.inr (hold m a hm (by omega))
  have hsplit := List.take_append_drop j V
  have hpm : (V.take j ++ e :: V.drop j).Perm (e :: V) := by
    have := List.perm_middle (a := e) (l₁ := V.take j) (l₂ := V.drop j)
    rw [hsplit] at this
    exact this
  have hlen : (V.take j ++ e :: V.drop j).length = V.length + 1 := by rw [hpm.length_eq]; rfl
  have hmem : ∀ d, d ∈ V.take j ++ e :: V.drop j ↔ d = e ∨ d ∈ V := fun d => by rw [hpm.mem_iff, List.mem_cons]
  have h2' := h2
  rw [← hsplit, List.pairwise_append] at h2'
  refine ⟨V.take j ++ e :: V.drop j, ⟨hpm.trans ((h1.cons e).trans (pqAdd_perm (by omega)).symm), ?_, pqAdd_heap (by omega) h3 hcm, ?_, by omega, by rw [hlen]; exact t23, fun m d hd => ?_, fun m hm => ?_, fun d hd => ?_, r + 1, by rw [show upd g 17 (g 17 + 1) 17 = g 17 + 1 from pk_us, a1]; exact nI_1 r, by omega, fun d hd => ?_⟩, fun m d hd => ?_, fun d hd => (hmem d).mpr (Or.inr hd), hlen, fun c _ h1 h2 => to c h1 (by omega), tg⟩
  · rw [List.pairwise_append, List.pairwise_cons]
    refine ⟨h2'.1, ⟨fun d hd => ?_, h2'.2.1⟩, fun d hd c hc => ?_⟩
    · obtain ⟨m, hm⟩ := List.getElem?_of_mem hd
      rw [List.getElem?_drop] at hm
      exact hnew _ d hm (by omega)
    · rcases List.mem_cons.mp hc with rfl | hc
      · obtain ⟨m, hm⟩ := List.getElem?_of_mem hd
        have hml : m < (V.take j).length := (List.getElem?_eq_some_iff.mp hm).1
        rw [List.length_take] at hml
        rw [List.getElem?_take, if_pos (by omega)] at hm
        exact hold m d hm (by omega)
      · exact h2'.2.2 d hd c hc
  · have : ((e :: V).map Prod.fst).Nodup := by
      rw [List.map_cons, List.nodup_cons]
      refine ⟨fun z => ?_, h4⟩
      obtain ⟨d, d1, d2⟩ := List.mem_map.mp z
      rw [he] at d2
      exact hy d d1 d2
    exact (hpm.map Prod.fst).symm.nodup this
  · rcases (ins_get w1).mp hd with ⟨z1, z2⟩ | ⟨z1, z2⟩ | ⟨z1, z2⟩
    · rw [wE_iff, tm m 0 (by omega) (by omega) (by omega), tm m 1 (by omega) (by omega) (by omega), tm m 2 (by omega) (by omega) (by omega), tm m 3 (by omega) (by omega) (by omega), if_neg (by omega), if_neg (by omega), if_neg (by omega), if_neg (by omega)]
      exact h7 m d z2
    · subst z1; subst z2
      rw [wE_iff, tj 0 (by omega), tj 1 (by omega), tj 2 (by omega), tj 3 (by omega), he]
      exact ⟨rfl, rfl, rfl, rfl⟩
    · have hml : m - 1 < V.length := (List.getElem?_eq_some_iff.mp z2).1
      rw [wE_iff, tm m 0 (by omega) (by omega) (by omega), tm m 1 (by omega) (by omega) (by omega), tm m 2 (by omega) (by omega) (by omega), tm m 3 (by omega) (by omega) (by omega), if_pos (by omega), if_pos (by omega), if_pos (by omega), if_pos (by omega)]
      exact h7 (m - 1) d z2
  · rw [show 256 * k + 5 * m + 32 = 256 * k + 5 * m + (30 + 2) by omega]
    by_cases z : m = j
    · subst z; rw [tj 2 (by omega)]; exact hln
    · by_cases z2 : m ≤ V.length
      · rw [tm m 2 z z2 (by omega)]
        by_cases z3 : j < m
        · rw [if_pos z3]; exact h8 (m - 1) (by omega)
        · rw [if_neg z3]; exact h8 m hm
      · rw [Nat.add_assoc, to _ (by omega) (by omega), ← Nat.add_assoc]; exact h8 m hm
  · rcases (hmem d).mp hd with z | z
    · rw [z, he]; exact hln
    · exact h9 d z
  · rcases (hmem d).mp hd with z | z
    · exact ⟨r, by omega, by rw [z, he]; exact a1⟩
    · obtain ⟨o, o1, o2⟩ := a3 d z
      exact ⟨o, by omega, o2⟩
  · rcases (ins_get w1).mp hd with ⟨z1, z2⟩ | ⟨z1, z2⟩ | ⟨z1, z2⟩
    · rw [show 256 * k + 5 * m + 34 = 256 * k + 5 * m + (30 + 4) by omega, tm m 4 (by omega) (by omega) (by omega), if_neg (by omega)]
      exact hF m d z2
    · subst z1; subst z2
      rw [show 256 * k + 5 * m + 34 = 256 * k + 5 * m + (30 + 4) by omega, tj 4 (by omega)]
      have hn : ¬ cs = some d.1 := by
        intro z
        obtain ⟨d', hd'⟩ := hcs _ z
        refine hy _ hd' ?_
        show d.1 = y
        rw [he]
      rw [if_neg hn]
      rfl
    · have hml : m - 1 < V.length := (List.getElem?_eq_some_iff.mp z2).1
      rw [show 256 * k + 5 * m + 34 = 256 * k + 5 * m + (30 + 4) by omega, tm m 4 (by omega) (by omega) (by omega), if_pos (by omega)]
      exact hF (m - 1) d z2
