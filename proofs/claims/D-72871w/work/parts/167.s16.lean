/-! cancel: the reference takes the frames out from behind, the component copies the others -/
set_option maxRecDepth 100000
theorem can_ind {k q : Nat} {g : Nat → Int32} {cs : Option Nat} {id : Int32} (f : Nat → Int32) : ∀ (i : Nat) (F : Nat → Int32) (U : List pqE) (r : Nat), i ≤ U.length → rW F k q g (pqFilt (fun _ => true) [] U) U → rF F k U cs → loc k F f → (∀ c, c < 256 → c ≠ 23 → (c < 30 ∨ 50 ≤ c) → F (256 * k + c) = f (256 * k + c)) →
    ∃ U', U' = (U.take i).filter (fun e => decide (¬ e.2.1 = id ∨ cs = some e.1)) ++ U.drop i ∧ rW (cnT k id i F U.length r).1 k q g (pqFilt (fun _ => true) [] U') U' ∧ rF (cnT k id i F U.length r).1 k U' cs ∧ (cnT k id i F U.length r).2 + U'.length = r + U.length ∧ loc k (cnT k id i F U.length r).1 f ∧ (∀ c, c < 256 → c ≠ 23 → (c < 30 ∨ 50 ≤ c) → (cnT k id i F U.length r).1 (256 * k + c) = f (256 * k + c)) := by
  intro i
  induction i with
  | zero => intro F U r _ hW hF hl hc; exact ⟨U, by simp, hW, hF, rfl, hl, hc⟩
  | succ i ih =>
    intro F U r hi hW hF hl hc
    have hU : U[i]? = some U[i] := List.getElem?_eq_getElem (by omega)
    have hE := hW.2.2.2.2.2.2.1 i _ hU
    have hFl := hF i _ hU
    have h4 := hW.2.2.2.2.1
    have ht : U.take (i + 1) = U.take i ++ [U[i]] := by rw [List.take_add_one, hU]; rfl
    have hd : U.drop i = U[i] :: U.drop (i + 1) := List.drop_eq_getElem_cons (by omega)
    by_cases z : ¬ U[i].2.1 = id ∨ cs = some U[i].1
    · have hn : ¬ (F (256 * k + 5 * i + 30) = id ∧ F (256 * k + 5 * i + 34) = 0) := by
        rw [hE.1, hFl]
        rintro ⟨a, b⟩
        rcases z with z | z
        · exact z a
        · rw [if_pos z] at b; exact absurd b (by decide)
      obtain ⟨U', e1, e2⟩ := ih F U r (by omega) hW hF hl hc
      refine ⟨U', ?_, ?_⟩
      · rw [e1, ht, List.filter_append, hd]
        simp only [List.filter_cons, List.filter_nil, decide_eq_true z, if_true, List.append_assoc, List.cons_append, List.nil_append]
      · simp only [cnT, if_neg hn]
        exact e2
    · have hn : F (256 * k + 5 * i + 30) = id ∧ F (256 * k + 5 * i + 34) = 0 := by
        rw [hE.1, hFl]
        refine ⟨Classical.byContradiction (fun w => z (Or.inl w)), if_neg (fun w => z (Or.inr w))⟩
      have hl1 : (U.eraseIdx i).length = U.length - 1 := List.length_eraseIdx_of_lt (by omega)
      have hs : List.Sublist (U.eraseIdx i) U := List.eraseIdx_sublist U i
      have hcp := pqCopy (W := U.eraseIdx i) (by omega) (List.Perm.refl _) (hW.2.1.sublist hs)
      have hW1 := hW.erase (i := i) (by omega) hcp.1 hcp.2
      have hF1 := hF.erase (i := i) h4 (by omega)
      obtain ⟨U', e1, e2, e3, e4, e5, e6⟩ := ih (T_unw F k i (U.length - 1)) (U.eraseIdx i) (r + 1) (by omega) hW1 hF1 (loc_unw hl (by omega) (by omega)) (fun c a b d => by rw [unw_o (by omega) (by omega) b d]; exact hc c a b d)
      have key : cnT k id (i + 1) F U.length r = cnT k id i (T_unw F k i (U.length - 1)) (U.eraseIdx i).length (r + 1) := by rw [hl1]; simp only [cnT, if_pos hn]
      refine ⟨U', ?_, ?_⟩
      · rw [e1, ht, List.filter_append]
        have e7 : (U.eraseIdx i).take i = U.take i := by rw [List.eraseIdx_eq_take_drop_succ, List.take_append_of_le_length (by rw [List.length_take]; omega), List.take_take, Nat.min_self]
        have e8 : (U.eraseIdx i).drop i = U.drop (i + 1) := by
          rw [List.eraseIdx_eq_take_drop_succ]
          exact List.drop_left' (by rw [List.length_take]; omega)
        rw [e7, e8]
        simp only [List.filter_cons, List.filter_nil, decide_eq_false z, Bool.false_eq_true, if_false, List.append_nil]
      · rw [key]
        exact ⟨e2, e3, by omega, e5, e6⟩
theorem nCan_P {x : NS} {id : Int32} : (fun e : pqE => decide (cKeep x.g x.ph x.cu id e)) = (fun e => decide (¬ e.2.1 = id ∨ nSnd x = some e.1)) := by
  funext e
  refine decide_eq_decide.mpr ?_
  unfold nSnd
  by_cases z : x.ph = 4 ∧ ¬ x.g 2 = 0
  · rw [if_pos z]
    simp only [cKeep]
    obtain ⟨z1, z2⟩ := z
    exact ⟨fun q => q.elim Or.inl (fun a => Or.inr a.2.symm), fun q => q.elim Or.inl (fun a => Or.inr ⟨⟨z2, z1⟩, a.symm⟩)⟩
  · rw [if_neg z]
    simp only [cKeep]
    constructor
    · rintro (a | a)
      · exact Or.inl a
      · exact absurd ⟨a.1.2, a.1.1⟩ z
    · rintro (a | a)
      · exact Or.inl a
      · cases a
theorem relN.canc {f : Nat → Int32} {k q : Nat} {x : NS} {id : Int32} (h : relN f k q x) : relN (cnT k id x.W.length f x.W.length 0).1 k q (nCan x id) ∧ (cnT k id x.W.length f x.W.length 0).2 + (nCanW x id).length = x.W.length ∧ loc k (cnT k id x.W.length f x.W.length 0).1 f := by
  obtain ⟨V, h⟩ := h
  have c3 := h.1.2.2.1
  have hl := c3.1.length_eq
  have h4 := c3.2.2.2.2.1
  have hcp := pqCopy (W := V) h4 (List.Perm.refl _) c3.2.1
  have hW0 : rW f k q x.g (pqFilt (fun _ => true) [] V) V := ⟨hcp.1, c3.2.1, hcp.2, c3.2.2.2⟩
  obtain ⟨U', e1, e2, e3, e4, e5, e6⟩ := can_ind (id := id) f V.length f V 0 (Nat.le_refl _) hW0 h.2.1 loc.rf (fun c _ _ _ => rfl)
  have e1' : U' = V.filter (fun e => decide (¬ e.2.1 = id ∨ nSnd x = some e.1)) := by rw [e1, List.take_length, List.drop_length, List.append_nil]
  have hp := pqFilt_0 (P := fun e => decide (¬ e.2.1 = id ∨ nSnd x = some e.1)) (by omega) c3.1 c3.2.1
  rw [hl] at e2 e3 e4 e5 e6
  have hC : nCanW x id = pqFilt (fun e => decide (¬ e.2.1 = id ∨ nSnd x = some e.1)) [] x.W := by unfold nCanW; rw [nCan_P]
  have hp1 : U'.Perm (nCanW x id) := by rw [hC, e1']; exact hp.1
  refine ⟨⟨U', ⟨h.1.1.fr (fun c hc => e6 c (by omega) (by omega) (by omega)), ?_, ⟨hp1, e2.2.1, by show pqH (nCanW x id); rw [hC]; exact hp.2, e2.2.2.2⟩, h.1.2.2.2.1.fr (fun c hc => e6 c (by omega) (by omega) (by omega)), h.1.2.2.2.2.1.fr (fun c hc => e6 c (by omega) (by omega) (by omega)), h.1.2.2.2.2.2.1, ?_⟩, e3, h.2.2.1.fr (fun c hc => e6 c (by omega) (by omega) (by omega)), fun z => ?_⟩, ?_, e5⟩
  · rw [e6 13 (by omega) (by omega) (by omega)]; exact h.1.2.1
  · rw [e6 19 (by omega) (by omega) (by omega)]; exact h.1.2.2.2.2.2.2
  · obtain ⟨b, ln', h1, h2, h3⟩ := h.2.2.2 z
    refine ⟨b, ln', h1.fr (fun c hc => e6 c (by omega) (by omega) (by omega)), h2.fr (e6 22 (by omega) (by omega) (by omega)), fun g => ?_⟩
    obtain ⟨ca, d, lw, a1, a2, a3⟩ := h3 g
    refine ⟨ca, d, lw, a1, ?_, a3.fr (fun c hc => e6 c (by omega) (by omega) (by omega))⟩
    rw [e1']
    refine List.mem_filter.mpr ⟨a2, decide_eq_true (Or.inr ?_)⟩
    unfold nSnd
    rw [if_pos ⟨z, g⟩]
    exact a1
  · rw [← hp1.length_eq]; omega
