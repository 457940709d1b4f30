/-! the tail of a frame -/
set_option maxRecDepth 100000
theorem maxI_dec {n : Nat} (h : n < 2147483648) : maxI 0 (nI n - 1) = nI (n - 1) := by
  unfold maxI
  by_cases q : n ≤ 1
  · rcases (show n = 0 ∨ n = 1 by omega) with rfl | rfl <;> decide
  · rw [show nI n - 1 = nI (n - 1) from nI_s (b := 1) (by omega), if_pos (show (0 : Int32) < nI (n - 1) from nI_lt (a := 0) (by omega) (by omega))]
theorem ansT_spec {f : Nat → Int32} {k : Nat} {id : Int32} : ∀ (j i : Nat), (∃ m, i ≤ m ∧ m < i + j ∧ f (256 * k + 3 * m + 74) = id ∧ ansT f k id j i = nI m) ∨ ((∀ m, i ≤ m → m < i + j → ¬ f (256 * k + 3 * m + 74) = id) ∧ ansT f k id j i = -1)
  | 0, i => Or.inr ⟨fun m h1 h2 => by omega, rfl⟩
  | j + 1, i => by
    unfold ansT
    by_cases q : f (256 * k + 3 * i + 74) = id
    · rw [if_pos q]; exact Or.inl ⟨i, by omega, by omega, q, rfl⟩
    · rw [if_neg q]
      rcases ansT_spec (f := f) (k := k) (id := id) j (i + 1) with ⟨m, h1, h2, h3, h4⟩ | ⟨h1, h2⟩
      · exact Or.inl ⟨m, by omega, by omega, h3, h4⟩
      · refine Or.inr ⟨fun m a b => ?_, h2⟩
        by_cases z : m = i
        · subst z; exact q
        · exact h1 m (by omega) (by omega)
theorem tget_some {C : List (Int32 × Nat)} {id : Int32} {p : Nat} (h : tget C id = some p) : (id, p) ∈ C := by
  unfold tget at h
  obtain ⟨e, h1, h2⟩ := Option.map_eq_some_iff.mp h
  have h3 := List.mem_of_find?_eq_some h1
  have h4 := List.find?_some h1
  simp only [decide_eq_true_eq] at h4
  rw [← h4, ← h2]
  exact h3
theorem tget_none {C : List (Int32 × Nat)} {id : Int32} (h : tget C id = none) : ∀ e ∈ C, ¬ e.1 = id := by
  unfold tget at h
  rw [Option.map_eq_none_iff, List.find?_eq_none] at h
  intro e he
  have := h e he
  simpa using this
theorem rA.ans {f : Nat → Int32} {k : Nat} {C : List (Int32 × Nat)} {ad : Nat → Int32 × Int32} {id : Int32} (h : rA f k C ad) : (tget C id = none ∧ ansT f k id C.length 0 < 0) ∨ ∃ p i, tget C id = some p ∧ i < C.length ∧ ansT f k id C.length 0 = nI i ∧ ¬ ansT f k id C.length 0 < 0 ∧ f (256 * k + 3 * i + 74) = id ∧ f (256 * k + 3 * i + 75) = (ad p).1 ∧ f (256 * k + 3 * i + 76) = (ad p).2 ∧ (id, p) ∈ C := by
  obtain ⟨h1, h2, h3, h4, h5, h6, h7⟩ := h
  rcases ansT_spec (f := f) (k := k) (id := id) C.length 0 with ⟨m, a1, a2, a3, a4⟩ | ⟨a1, a2⟩
  · right
    cases hg : tget C id with
    | none =>
      obtain ⟨e, e1, e2⟩ := h5 m (by omega)
      exact absurd (e2.symm.trans a3) (tget_none hg e e1)
    | some p =>
      have hm := tget_some hg
      obtain ⟨i, i1, i2, i3, i4⟩ := h4 _ hm
      have : i = m := h6 i m i1 (by omega) (i2.trans a3.symm)
      subst this
      exact ⟨p, i, rfl, i1, a4, by rw [a4]; exact nI_pos (by omega), a3, i3, i4, hm⟩
  · left
    refine ⟨?_, by rw [a2]; decide⟩
    cases hg : tget C id with
    | none => rfl
    | some p =>
      obtain ⟨i, i1, i2, -⟩ := h4 _ (tget_some hg)
      exact absurd i2 (a1 i (by omega) (by omega))
/-- a received frame -/
theorem sim_got {f : Nat → Int32} {k y ln : Nat} {R : List pqE} {s : Nat → Int32} {id : Int32} (hk : k < 4) (h : rR f k R) (h4 : s 4 = 0 ∨ s 4 = 1) (h102 : f (256 * k + 102) = s 4) (h5 : s 5 = nI ln) (h6 : s 6 = if s 4 = 1 then 0 else smT f (256 * k + 109) (8 * ln)) (hl : ln ≤ 4) (hR : ¬ R.length = 6) :
    rR (T_got f k R.length ln id) k (R ++ [(y, (id, decide (¬ s 4 = 0), s 5, s 6, 0))]) ∧ (∀ c, c ≠ 24 → (c < 50 ∨ 74 ≤ c) → T_got f k R.length ln id (256 * k + c) = f (256 * k + c)) ∧ ∀ c, 1024 ≤ c → T_got f k R.length ln id c = f c := by
  obtain ⟨h1, h2, h3⟩ := h
  obtain ⟨n, hn⟩ : ∃ n, n = R.length := ⟨_, rfl⟩
  rw [← hn] at h1 h2 hR ⊢
  obtain ⟨g1, e1⟩ : ∃ z, z = upd f (256 * k + 4 * n + 50) id := ⟨_, rfl⟩
  obtain ⟨g2, e2⟩ : ∃ z, z = upd g1 (256 * k + 4 * n + 51) (f (256 * k + 102)) := ⟨_, rfl⟩
  obtain ⟨g3, e3⟩ : ∃ z, z = upd g2 (256 * k + 4 * n + 52) (nI ln) := ⟨_, rfl⟩
  obtain ⟨g4, e4⟩ : ∃ z, z = upd g3 (256 * k + 4 * n + 53) (if f (256 * k + 102) = 1 then 0 else smT g3 (256 * k + 19 + 90) (8 * ln)) := ⟨_, rfl⟩
  have eG : T_got f k n ln id = upd g4 (256 * k + 24) (g4 (256 * k + 24) + 1) := by
    unfold T_got
    rw [if_neg hR, e4, e3, e2, e1]
  have g3o : ∀ c, (c < 256 * k + 4 * n + 50 ∨ 256 * k + 4 * n + 53 ≤ c) → g3 c = f c := fun c hc => by rw [e3, pk_un (by omega), e2, pk_un (by omega), e1, pk_un (by omega)]
  have hsm : smT g3 (256 * k + 19 + 90) (8 * ln) = smT f (256 * k + 109) (8 * ln) := by
    rw [show 256 * k + 19 + 90 = 256 * k + 109 by omega]
    exact smT_c (fun j hj => g3o _ (by omega))
  have d0 : g4 (256 * k + 4 * n + 50) = id := by rw [e4, pk_un (by omega), e3, pk_un (by omega), e2, pk_un (by omega), e1]; exact pk_us
  have d1 : g4 (256 * k + 4 * n + 51) = f (256 * k + 102) := by rw [e4, pk_un (by omega), e3, pk_un (by omega), e2]; exact pk_us
  have d2 : g4 (256 * k + 4 * n + 52) = nI ln := by rw [e4, pk_un (by omega), e3]; exact pk_us
  have d3 : g4 (256 * k + 4 * n + 53) = s 6 := by rw [e4, pk_us, hsm, h6, h102]
  have d4 : ∀ c, (c < 256 * k + 4 * n + 50 ∨ 256 * k + 4 * n + 54 ≤ c) → g4 c = f c := fun c hc => by rw [e4, pk_un (by omega)]; exact g3o c (by omega)
  rw [eG]
  have d24 : g4 (256 * k + 24) = nI n := (d4 _ (by omega)).trans h2
  refine ⟨⟨by rw [List.length_append, ← hn]; simp only [List.length_cons, List.length_nil]; omega, ?_, fun i e he => ?_⟩, fun c a b => ?_, fun c a => ?_⟩
  · rw [pk_us, d24, List.length_append, ← hn]; exact nI_1 n
  · have hi : i < n + 1 := by have := (List.getElem?_eq_some_iff.mp he).1; rw [List.length_append, ← hn] at this; exact this
    by_cases z : i < n
    · rw [List.getElem?_append_left (by omega)] at he
      rw [pk_un (by omega), pk_un (by omega), pk_un (by omega), pk_un (by omega), d4 _ (by omega), d4 _ (by omega), d4 _ (by omega), d4 _ (by omega)]
      exact h3 i e he
    · obtain rfl : i = n := by omega
      rw [List.getElem?_append_right (by omega), ← hn, Nat.sub_self] at he
      have he : _ = e := Option.some.inj he
      subst he
      rw [pk_un (by omega), pk_un (by omega), pk_un (by omega), pk_un (by omega), d0, d1, d2, d3, h102, h5]
      refine ⟨rfl, ?_, rfl, rfl⟩
      show s 4 = bI (decide (¬ s 4 = 0))
      rcases h4 with z | z
      · rw [z]; rfl
      · rw [z]; rfl
  · rw [pk_un (by omega), d4 _ (by omega)]
  · rw [pk_un (by omega), d4 _ (by omega)]
