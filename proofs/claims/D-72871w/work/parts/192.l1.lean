/-! the law: rows for the script, the invariant, small laws -/
set_option maxRecDepth 100000
section LAWR
variable {p : Program} {l : Launch} {e : Env} {R : Room} {s : State} {m : MethodId} {args : Array Value} {below : List Frame} {meth : Method} {c : Code} {G : gG} {nL : Nat} {Q : State → Prop} {cells slots : Nat} {M : gM} {pc : Nat} {lv : List (Nat × Value)} {st : List Value} {cc : ByteArray} {own nm : String} {ret : Option FieldType}
theorem g_scr (hC : gC p s m args meth c G nL cc own nm ret) {b L i : Nat} {xs : Nat → Int32} (hX : va_X b L xs s s.heap) (hb : b < s.heap.size ∧ b < gz G) (hi : i < L) (hL : L ≤ 384) (hd : decode cc pc = .ok (.iaload, 1)) (q : Nat) (hq : pc + 1 = q) (k : gJ p l e R s m args below meth c G nL Q cells slots M q lv (.int (xs i) :: st)) : gJ p l e R s m args below meth c G nL Q cells slots M pc lv (.int (nI i) :: .ref b :: st) := by
  subst hq
  intro H locs ls hW hS hl
  have hcl : (nI i).toNatClampNeg = i := nI_clamp (by omega)
  refine va_sld hC.hx hC.hb hX hb.1 (A := gA G) (fun z => absurd hb.2 (Nat.not_lt.mpr z)) hS (i := nI i) ?_ hd ?_
  · intro z
    rcases z with z | z
    · exact nI_pos (by omega) z
    · rw [hcl] at z; omega
  · rw [hcl]; exact k H locs ls hW hS hl
theorem g_scl (hC : gC p s m args meth c G nL cc own nm ret) {b L : Nat} {xs : Nat → Int32} (hX : va_X b L xs s s.heap) (hb : b < s.heap.size ∧ b < gz G) (hd : decode cc pc = .ok (.arraylength, 1)) (q : Nat) (hq : pc + 1 = q) (k : gJ p l e R s m args below meth c G nL Q cells slots M q lv (.int (nI L) :: st)) : gJ p l e R s m args below meth c G nL Q cells slots M pc lv (.ref b :: st) := by
  subst hq
  intro H locs ls hW hS hl
  exact va_slen hC.hx hC.hb hX hb.1 (A := gA G) (fun z => absurd hb.2 (Nat.not_lt.mpr z)) hS hd (k H locs ls hW hS hl)
end LAWR
theorem busR.congr {M : gM} {G : gG} {ta of q : Nat} {f F : Nat → Int32} (h : busR M G ta of f q) (hF : ∀ c, c < 1310 → F c = f c) : busR M G ta of F q := by
  obtain ⟨x0, x1, x2, x3, D, hs, tn, pl, ol, rv, h1, ⟨⟨r0, r1, r2, r3⟩, ⟨ht, htq⟩, ⟨hpl, hol, hrv⟩, hp, hD, hh⟩⟩ := h
  refine ⟨x0, x1, x2, x3, D, hs, tn, pl, ol, rv, h1, ⟨r0.fr (fun c hc => hF _ (by omega)), r1.fr (fun c hc => hF _ (by omega)), r2.fr (fun c hc => hF _ (by omega)), r3.fr (fun c hc => hF _ (by omega))⟩, ⟨by rw [hF _ (by omega)]; exact ht, htq⟩, ⟨by rw [hF _ (by omega)]; exact hpl, by rw [hF _ (by omega)]; exact hol, by rw [hF _ (by omega)]; exact hrv⟩, hp, hD.fr (fun c h1 h2 => hF _ (by omega)), fun i hi => ?_⟩
  rw [hF _ (by omega)]; exact hh i hi
theorem fresh_n : ∀ (W : List pqE), ∃ y, ∀ e ∈ W, e.1 < y
  | [] => ⟨0, fun e he => nomatch he⟩
  | a :: W => by
    obtain ⟨y, hy⟩ := fresh_n W
    refine ⟨max y (a.1 + 1), fun e he => ?_⟩
    rcases List.mem_cons.mp he with z | z
    · rw [z]; omega
    · have := hy e z; omega
theorem relB_step {f : Nat → Int32} {q : Nat} {x0 x1 x2 x3 : NS} {D : List dsE} {hs : Nat → Int32} {tn : Nat} {pl ol rv : Int32} (h : relB f q x0 x1 x2 x3 D hs tn pl ol rv) (hq : q < 1000000) : ∃ (x0 x1 x2 x3 : NS) (D : List dsE) (hs : Nat → Int32) (tn : Nat), relB (T_bit f) (q + 1) x0 x1 x2 x3 D hs tn pl ol rv := by
  obtain ⟨r0, r1, r2, r3⟩ := h.1
  obtain ⟨ca0, d0, pn0, ln0, hc0⟩ := r0.cur
  obtain ⟨ca1, d1, pn1, ln1, hc1⟩ := r1.cur
  obtain ⟨ca2, d2, pn2, ln2, hc2⟩ := r2.cur
  obtain ⟨ca3, d3, pn3, ln3, hc3⟩ := r3.cur
  obtain ⟨y0, hy0⟩ := fresh_n (nDr x0 (nDrv x0 d0 pn0 ln0)).W
  obtain ⟨y1, hy1⟩ := fresh_n (nDr x1 (nDrv x1 d1 pn1 ln1)).W
  obtain ⟨y2, hy2⟩ := fresh_n (nDr x2 (nDrv x2 d2 pn2 ln2)).W
  obtain ⟨y3, hy3⟩ := fresh_n (nDr x3 (nDrv x3 d3 pn3 ln3)).W
  exact ⟨_, _, _, _, _, _, _, sim_step (y0 := y0) (y1 := y1) (y2 := y2) (y3 := y3) h hq (sim_drvN r0 hc0) (sim_drvN r1 hc1) (sim_drvN r2 hc2) (sim_drvN r3 hc3) (nDr_cu hc0) (nDr_cu hc1) (nDr_cu hc2) (nDr_cu hc3) (fun _ e he => Nat.ne_of_lt (hy0 e he)) (fun _ e he => Nat.ne_of_lt (hy1 e he)) (fun _ e he => Nat.ne_of_lt (hy2 e he)) (fun _ e he => Nat.ne_of_lt (hy3 e he))⟩
theorem relB_bits {f : Nat → Int32} {q : Nat} {x0 x1 x2 x3 : NS} {D : List dsE} {hs : Nat → Int32} {tn : Nat} {pl ol rv : Int32} (h : relB f q x0 x1 x2 x3 D hs tn pl ol rv) : ∀ n, q + n < 1000000 → ∃ (x0 x1 x2 x3 : NS) (D : List dsE) (hs : Nat → Int32) (tn : Nat), relB (T_bits f n) (q + n) x0 x1 x2 x3 D hs tn pl ol rv
  | 0, _ => ⟨_, _, _, _, _, _, _, h⟩
  | n + 1, hq => by
    obtain ⟨y0, y1, y2, y3, D', hs', tn', h'⟩ := relB_bits h n (by omega)
    obtain ⟨z0, z1, z2, z3, E', gs', un', g'⟩ := relB_step h' (by omega)
    exact ⟨z0, z1, z2, z3, E', gs', un', g'⟩
theorem busR.okB {M : gM} {G : gG} {ta of q : Nat} {f : Nat → Int32} (h : busR M G ta of f q) {n : Nat} (hq : q + n < 1000000) : ∀ i, i < n → okAll (T_bits f i) := by
  obtain ⟨x0, x1, x2, x3, D, hs, tn, pl, ol, rv, h1, h2⟩ := h
  intro i hi
  obtain ⟨y0, y1, y2, y3, D', hs', tn', h'⟩ := relB_bits h2 i (by omega)
  exact h'.ok (by omega)
theorem okAll.w {f : Nat → Int32} (h : okAll f) : okW f := fun k hk => ⟨nNw f k, (okAll.nw h hk).2, (okAll.nw h hk).1⟩
theorem okAll.na {f : Nat → Int32} (h : okAll f) {k : Nat} (hk : k < 4) : f (256 * k + 25) = nI (nNa f k) ∧ nNa f k ≤ 4 := (h.1 k hk).2.2.2.2.1
theorem okAll.nr {f : Nat → Int32} (h : okAll f) {k : Nat} (hk : k < 4) : f (256 * k + 24) = nI (nNr f k) ∧ nNr f k ≤ 6 := (h.1 k hk).2.2.2.2.2.2.1
/-- a saved slot -/
def sv1 (M : gM) (G : gG) (A : Nat → Option Nat) (ik kf : Nat → Int32) (ts s q : Nat) : Prop := (A s = none ∧ ik s = 0) ∨ ∃ os fs, A s = some os ∧ ik s = 1 ∧ busR M G ts os fs q ∧ ∀ c, c < 1310 → fs c = kf (1310 * s + c)
theorem sv1.fr {M M' : gM} {G : gG} {A : Nat → Option Nat} {ik kf : Nat → Int32} {ts s q : Nat} (h : sv1 M G A ik kf ts s q) (hF : gFr (gT (fun t => ¬ (fun t => t.1 = ts ∨ tg0 t) t)) M M') : sv1 M' G A ik kf ts s q := by
  rcases h with h | ⟨os, fs, h1, h2, h3, h4⟩
  · exact Or.inl h
  · exact Or.inr ⟨os, fs, h1, h2, h3.fr hF, h4⟩
theorem sv1.mono {M : gM} {G : gG} {A : Nat → Option Nat} {ik kf : Nat → Int32} {ts s q q' : Nat} (h : sv1 M G A ik kf ts s q) (hq : q ≤ q') : sv1 M G A ik kf ts s q' := by
  rcases h with h | ⟨os, fs, h1, h2, h3, h4⟩
  · exact Or.inl h
  · exact Or.inr ⟨os, fs, h1, h2, h3.mono hq, h4⟩
theorem sv1.cg {M : gM} {G : gG} {A A' : Nat → Option Nat} {ik ik' kf kf' : Nat → Int32} {ts s q : Nat} (h : sv1 M G A ik kf ts s q) (hA : A' s = A s) (hi : ik' s = ik s) (hk : ∀ c, c < 1310 → kf' (1310 * s + c) = kf (1310 * s + c)) : sv1 M G A' ik' kf' ts s q := by
  rcases h with h | ⟨os, fs, h1, h2, h3, h4⟩
  · exact Or.inl ⟨by rw [hA]; exact h.1, by rw [hi]; exact h.2⟩
  · exact Or.inr ⟨os, fs, by rw [hA]; exact h1, by rw [hi]; exact h2, h3, fun c hc => by rw [hk c hc]; exact h4 c hc⟩
theorem find_least {g : Nat → Int32} {x : Int32} : ∀ n, (∀ i, i < n → ¬ g (4 * i) = x) ∨ ∃ a, a < n ∧ g (4 * a) = x ∧ ∀ i, i < a → ¬ g (4 * i) = x
  | 0 => Or.inl (fun i hi => absurd hi (Nat.not_lt_zero _))
  | n + 1 => by
    rcases find_least (g := g) (x := x) n with h | ⟨a, h1, h2, h3⟩
    · by_cases q : g (4 * n) = x
      · exact Or.inr ⟨n, by omega, q, h⟩
      · refine Or.inl (fun i hi => ?_)
        by_cases z : i = n
        · rw [z]; exact q
        · exact h i (by omega)
    · exact Or.inr ⟨a, by omega, h2, h3⟩
/-- what holds between two calls -/
def LW (M : gM) (G : gG) (x m q : Nat) : Prop := ∃ (ta of sv ms tx lc av asp ak aik atx am mc aa pc_ ato t0 t1 : Nat) (f txf sp kf ik gm ga gt : Nat → Int32) (A : Nat → Option Nat),
  ((2 ≤ ta ∧ ta < 6) ∧ (2 ≤ t0 ∧ t0 < 6) ∧ (2 ≤ t1 ∧ t1 < 6) ∧ ta ≠ t0 ∧ ta ≠ t1 ∧ t0 ≠ t1 ∧ lc ≤ 120 ∧ pc_ ≤ 135 ∧ mc ≤ 8) ∧ (∀ q, 0 ≤ txf q ∧ txf q ≤ 127) ∧
  M x = some ((8, 0), .inr (0, [.ref of, .ref sv, .ref ms, .ref tx, .int (nI lc)])) ∧ M sv = some ((8, 1), .inl (gcs G 5, 2, .inr (.inr (.inr (.inr A))))) ∧ M tx = some ((8, 5), .inl (gcs G 1, 120, .inl txf)) ∧
  M m = some ((1, 0), .inr (7, [.ref av, .ref asp, .ref ak, .ref aik, .ref atx, .int (nI lc), .ref am, .int (nI mc), .ref aa, .int (nI pc_), .ref ato])) ∧ M av = some ((1, 1), .inl (gcs G 0, 1310, .inl f)) ∧ M asp = some ((1, 2), .inl (gcs G 0, 1310, .inl sp)) ∧ M ak = some ((1, 3), .inl (gcs G 0, 2620, .inl kf)) ∧ M aik = some ((1, 4), .inl (gcs G 2, 2, .inl ik)) ∧
  M atx = some ((1, 5), .inl (gcs G 0, 120, .inl txf)) ∧ M am = some ((1, 6), .inl (gcs G 0, 32, .inl gm)) ∧ M aa = some ((1, 7), .inl (gcs G 0, 66, .inl ga)) ∧ M ato = some ((1, 8), .inl (gcs G 0, 5, .inl gt)) ∧
  busR M G ta of f q ∧ sv1 M G A ik kf t0 0 q ∧ sv1 M G A ik kf t1 1 q ∧ msR M G ms gm mc
