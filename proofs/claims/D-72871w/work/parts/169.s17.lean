/-! the answers: put and remove against the reference's table -/
set_option maxRecDepth 100000
theorem i32lt_tr {a b c : Int32} (h1 : a < b) (h2 : b < c) : a < c := Int32.lt_trans h1 h2
theorem i32lt_ne {a b : Int32} (h : a < b) : ¬ a = b := fun z => i32ir _ (z ▸ h)
theorem i32_tri {a b : Int32} (h1 : ¬ a < b) (h2 : ¬ a = b) : b < a := by
  rw [Int32.lt_iff_toInt_lt] at *
  have : a.toInt ≠ b.toInt := fun z => h2 (Int32.toInt_inj.mp z)
  omega
abbrev srtC (C : List (Int32 × Nat)) : Prop := C.Pairwise (fun a b => a.1 < b.1)
theorem tput_mem {k : Int32} {v : Nat} {e : Int32 × Nat} : ∀ (C : List (Int32 × Nat)), srtC C → (e ∈ tput C k v ↔ e = (k, v) ∨ (e ∈ C ∧ ¬ e.1 = k))
  | [], _ => by simp [tput]
  | d :: C, h => by
    have hp := List.pairwise_cons.mp h
    unfold tput
    by_cases h1 : d.1 < k
    · rw [if_pos h1]
      simp only [List.mem_cons, tput_mem C hp.2]
      constructor
      · rintro (a | a | a)
        · exact Or.inr ⟨Or.inl a, by rw [a]; exact i32lt_ne h1⟩
        · exact Or.inl a
        · exact Or.inr ⟨Or.inr a.1, a.2⟩
      · rintro (a | ⟨a | a, b⟩)
        · exact Or.inr (Or.inl a)
        · exact Or.inl a
        · exact Or.inr (Or.inr ⟨a, b⟩)
    · rw [if_neg h1]
      by_cases h2 : d.1 = k
      · rw [if_pos h2]
        simp only [List.mem_cons]
        constructor
        · rintro (a | a)
          · exact Or.inl a
          · exact Or.inr ⟨Or.inr a, fun z => i32lt_ne (hp.1 e a) (h2.trans z.symm)⟩
        · rintro (a | ⟨a | a, b⟩)
          · exact Or.inl a
          · exact absurd (a ▸ h2) b
          · exact Or.inr a
      · rw [if_neg h2]
        have h3 : k < d.1 := i32_tri h1 h2
        simp only [List.mem_cons]
        constructor
        · rintro (a | a | a)
          · exact Or.inl a
          · exact Or.inr ⟨Or.inl a, by rw [a]; exact h2⟩
          · exact Or.inr ⟨Or.inr a, fun z => i32lt_ne (i32lt_tr h3 (hp.1 e a)) z.symm⟩
        · rintro (a | ⟨a | a, b⟩)
          · exact Or.inl a
          · exact Or.inr (Or.inl a)
          · exact Or.inr (Or.inr a)
theorem tput_srt {k : Int32} {v : Nat} : ∀ (C : List (Int32 × Nat)), srtC C → srtC (tput C k v)
  | [], _ => by unfold tput; exact List.pairwise_singleton _ _
  | d :: C, h => by
    have hp := List.pairwise_cons.mp h
    unfold tput
    by_cases h1 : d.1 < k
    · rw [if_pos h1]
      refine List.pairwise_cons.mpr ⟨fun e he => ?_, tput_srt C hp.2⟩
      rcases (tput_mem C hp.2).mp he with a | a
      · rw [a]; exact h1
      · exact hp.1 e a.1
    · rw [if_neg h1]
      by_cases h2 : d.1 = k
      · rw [if_pos h2]
        exact List.pairwise_cons.mpr ⟨fun e he => by rw [← h2]; exact hp.1 e he, hp.2⟩
      · rw [if_neg h2]
        have h3 : k < d.1 := i32_tri h1 h2
        refine List.pairwise_cons.mpr ⟨fun e he => ?_, h⟩
        rcases List.mem_cons.mp he with a | a
        · rw [a]; exact h3
        · exact i32lt_tr h3 (hp.1 e a)
theorem tput_len {k : Int32} {v : Nat} : ∀ (C : List (Int32 × Nat)), srtC C → (tput C k v).length = if tget C k = none then C.length + 1 else C.length
  | [], _ => by simp [tput, tget]
  | d :: C, h => by
    have hp := List.pairwise_cons.mp h
    unfold tput
    by_cases h1 : d.1 < k
    · rw [if_pos h1]
      have e : tget (d :: C) k = tget C k := by
        unfold tget
        rw [List.find?_cons_of_neg (by simp only [decide_eq_true_eq]; exact i32lt_ne h1)]
      rw [e, List.length_cons, tput_len C hp.2, List.length_cons]
      split <;> rfl
    · rw [if_neg h1]
      by_cases h2 : d.1 = k
      · rw [if_pos h2]
        have e : tget (d :: C) k = some d.2 := by
          unfold tget
          rw [List.find?_cons_of_pos (by simp only [decide_eq_true_eq]; exact h2)]
          rfl
        rw [e, if_neg (by intro z; cases z)]
        rfl
      · rw [if_neg h2]
        have h3 : k < d.1 := i32_tri h1 h2
        have e : tget (d :: C) k = none := by
          unfold tget
          rw [Option.map_eq_none_iff, List.find?_eq_none]
          intro x hx
          simp only [decide_eq_true_eq]
          rcases List.mem_cons.mp hx with a | a
          · rw [a]; exact h2
          · exact fun z => i32lt_ne (i32lt_tr h3 (hp.1 x a)) z.symm
        rw [e, if_pos rfl]
        rfl
def adU (ad : Nat → Int32 × Int32) (p : Nat) (ln da : Int32) : Nat → Int32 × Int32 := fun a => if a = p then (ln, da) else ad a
theorem sAw_rd {F : Nat → Int32} {k m i a : Nat} {id ln da : Int32} (ha : a < 3) : T_sAw F k m id ln da (256 * k + 3 * i + (74 + a)) = if i = m then (if a = 0 then id else if a = 1 then ln else da) else F (256 * k + 3 * i + (74 + a)) := by
  unfold T_sAw
  by_cases h : i = m
  · subst h
    rw [if_pos rfl]
    rcases (show a = 0 ∨ a = 1 ∨ a = 2 by omega) with rfl | rfl | rfl
    · rw [pk_un (by omega), pk_un (by omega), if_pos rfl]; exact pk_us
    · rw [pk_un (by omega), if_neg (by omega), if_pos rfl]; exact pk_us
    · rw [if_neg (by omega), if_neg (by omega)]; exact pk_us
  · rw [if_neg h, pk_un (by omega), pk_un (by omega), pk_un (by omega)]
theorem sAw_o {F : Nat → Int32} {k m c : Nat} {id ln da : Int32} (h : c < 256 * k + 74 ∨ 256 * k + 86 ≤ c) (hm : m ≤ 3) : T_sAw F k m id ln da c = F c := by
  unfold T_sAw
  rw [pk_un (by omega), pk_un (by omega), pk_un (by omega)]
theorem rA.put {f : Nat → Int32} {k p : Nat} {C : List (Int32 × Nat)} {ad : Nat → Int32 × Int32} {id ln da : Int32} (h : rA f k C ad) (hf : ¬ (tget C id = none ∧ C.length = 4)) (hp : ∀ e ∈ C, e.2 ≠ p) (hln : ∃ n, n ≤ 4 ∧ ln = nI n) : rA (T_sAns f k id ln da C.length) k (tput C id p) (adU ad p ln da) := by
  obtain ⟨h1, h2, h3, h4, h5, h6, h7⟩ := h
  have hadp : adU ad p ln da p = (ln, da) := if_pos rfl
  have hado : ∀ e ∈ C, adU ad p ln da e.2 = ad e.2 := fun e he => if_neg (hp e he)
  have h77 : ∀ e ∈ tput C id p, ∃ n, n ≤ 4 ∧ (adU ad p ln da e.2).1 = nI n := by
    intro e he
    rcases (tput_mem C h1).mp he with a | a
    · rw [a]; show ∃ n, n ≤ 4 ∧ (adU ad p ln da p).1 = nI n; rw [hadp]; exact hln
    · rw [hado e a.1]; exact h7 e a.1
  rcases rA.ans (id := id) ⟨h1, h2, h3, h4, h5, h6, h7⟩ with ⟨g1, g2⟩ | ⟨p0, m, g1, g2, g3, g4, -⟩
  · have hn : ¬ C.length = 4 := fun z => hf ⟨g1, z⟩
    have eT : T_sAns f k id ln da C.length = T_sAw (upd f (256 * k + 25) (nI (C.length + 1))) k C.length id ln da := by unfold T_sAns; rw [if_pos g2, if_neg hn]
    have hl : (tput C id p).length = C.length + 1 := by rw [tput_len C h1, if_pos g1]
    rw [eT]
    have rd0 : ∀ i, T_sAw (upd f (256 * k + 25) (nI (C.length + 1))) k C.length id ln da (256 * k + 3 * i + 74) = if i = C.length then id else f (256 * k + 3 * i + 74) := fun i => by
      rw [sAw_rd (a := 0) (by omega)]
      simp only [if_true, Nat.add_zero]
      rw [pk_un (by omega)]
    have rd1 : ∀ i, T_sAw (upd f (256 * k + 25) (nI (C.length + 1))) k C.length id ln da (256 * k + 3 * i + 75) = if i = C.length then ln else f (256 * k + 3 * i + 75) := fun i => by
      rw [sAw_rd (a := 1) (by omega)]
      simp only [Nat.one_ne_zero, if_false, if_true]
      rw [pk_un (by omega)]
    have rd2 : ∀ i, T_sAw (upd f (256 * k + 25) (nI (C.length + 1))) k C.length id ln da (256 * k + 3 * i + 76) = if i = C.length then da else f (256 * k + 3 * i + 76) := fun i => by
      rw [sAw_rd (a := 2) (by omega)]
      simp only [show ¬ ((2 : Nat) = 0) by decide, show ¬ ((2 : Nat) = 1) by decide, if_false]
      rw [pk_un (by omega)]
    refine ⟨tput_srt C h1, by omega, ?_, fun e he => ?_, fun i hi => ?_, fun i j hi hj hij => ?_, h77⟩
    · rw [sAw_o (Or.inl (by omega)) (by omega), hl]; exact pk_us
    · rcases (tput_mem C h1).mp he with a | a
      · refine ⟨C.length, by omega, ?_⟩
        rw [rd0, rd1, rd2, if_pos rfl, if_pos rfl, if_pos rfl, a]
        show id = id ∧ ln = (adU ad p ln da p).1 ∧ da = (adU ad p ln da p).2
        rw [hadp]
        exact ⟨rfl, rfl, rfl⟩
      · obtain ⟨i, hi, q⟩ := h4 e a.1
        refine ⟨i, by omega, ?_⟩
        rw [rd0, rd1, rd2, if_neg (by omega), if_neg (by omega), if_neg (by omega), hado e a.1]
        exact q
    · rw [rd0]
      by_cases z : i = C.length
      · exact ⟨(id, p), (tput_mem C h1).mpr (Or.inl rfl), by rw [if_pos z]⟩
      · obtain ⟨e, he, q⟩ := h5 i (by omega)
        exact ⟨e, (tput_mem C h1).mpr (Or.inr ⟨he, tget_none g1 e he⟩), by rw [if_neg z]; exact q⟩
    · rw [rd0, rd0] at hij
      by_cases zi : i = C.length <;> by_cases zj : j = C.length
      · omega
      · rw [if_pos zi, if_neg zj] at hij
        obtain ⟨e, he, q⟩ := h5 j (by omega)
        exact absurd (q.symm.trans hij.symm) (tget_none g1 e he)
      · rw [if_neg zi, if_pos zj] at hij
        obtain ⟨e, he, q⟩ := h5 i (by omega)
        exact absurd (q.symm.trans hij) (tget_none g1 e he)
      · rw [if_neg zi, if_neg zj] at hij
        exact h6 i j (by omega) (by omega) hij
  · have hm : (ansT f k id C.length 0).toNatClampNeg = m := by rw [g3]; exact nI_clamp (by omega)
    have eT : T_sAns f k id ln da C.length = T_sAw f k m id ln da := by unfold T_sAns; rw [if_neg g4, hm]
    have hl : (tput C id p).length = C.length := by rw [tput_len C h1, if_neg (by rw [g1]; intro z; cases z)]
    have hid : f (256 * k + 3 * m + 74) = id := by
      rcases ansT_spec (f := f) (k := k) (id := id) C.length 0 with ⟨m', a1, a2, a3, a4⟩ | ⟨a1, a2⟩
      · have : m' = m := nn_eq (by omega) (by omega) (a4.symm.trans g3)
        rw [← this]; exact a3
      · rw [a2] at g4; exact absurd (by decide) g4
    rw [eT]
    have rd0 : ∀ i, T_sAw f k m id ln da (256 * k + 3 * i + 74) = f (256 * k + 3 * i + 74) := fun i => by
      rw [sAw_rd (a := 0) (by omega)]
      by_cases z : i = m
      · rw [if_pos z, if_pos rfl, z]; exact hid.symm
      · rw [if_neg z]
    have rd1 : ∀ i, T_sAw f k m id ln da (256 * k + 3 * i + 75) = if i = m then ln else f (256 * k + 3 * i + 75) := fun i => by
      rw [sAw_rd (a := 1) (by omega)]
      simp only [Nat.one_ne_zero, if_false, if_true]
    have rd2 : ∀ i, T_sAw f k m id ln da (256 * k + 3 * i + 76) = if i = m then da else f (256 * k + 3 * i + 76) := fun i => by
      rw [sAw_rd (a := 2) (by omega)]
      simp only [show ¬ ((2 : Nat) = 0) by decide, show ¬ ((2 : Nat) = 1) by decide, if_false]
    refine ⟨tput_srt C h1, by omega, ?_, fun e he => ?_, fun i hi => ?_, fun i j hi hj hij => ?_, h77⟩
    · rw [sAw_o (Or.inl (by omega)) (by omega), hl]; exact h3
    · rcases (tput_mem C h1).mp he with a | a
      · refine ⟨m, by omega, ?_⟩
        rw [rd0, rd1, rd2, if_pos rfl, if_pos rfl, a]
        show f (256 * k + 3 * m + 74) = id ∧ ln = (adU ad p ln da p).1 ∧ da = (adU ad p ln da p).2
        rw [hadp]
        exact ⟨hid, rfl, rfl⟩
      · obtain ⟨i, hi, q⟩ := h4 e a.1
        have him : ¬ i = m := fun z => a.2 (by rw [← q.1, z]; exact hid)
        refine ⟨i, by omega, ?_⟩
        rw [rd0, rd1, rd2, if_neg him, if_neg him, hado e a.1]
        exact q
    · rw [rd0]
      by_cases z : i = m
      · exact ⟨(id, p), (tput_mem C h1).mpr (Or.inl rfl), by rw [z]; exact hid⟩
      · obtain ⟨e, he, q⟩ := h5 i (by omega)
        refine ⟨e, (tput_mem C h1).mpr (Or.inr ⟨he, fun w => z (h6 i m (by omega) g2 ?_)⟩), q⟩
        rw [q, w, hid]
    · rw [rd0, rd0] at hij
      exact h6 i j (by omega) (by omega) hij
