/-! periodic messages: sums and greatest values over a list, whatever its order; the relation of the two stores -/
set_option maxRecDepth 100000
abbrev mE := Nat × Nat × Nat × Nat
def bkV (x : Nat) (d : mE) : Nat := if x < d.1 then wN d.2.1 else 0
def bkL (x : Nat) : List mE → Nat
  | [] => 0
  | d :: l => max (bkV x d) (bkL x l)
def itV (x w : Nat) (d : mE) : Nat := if d.1 < x then dmd (wN d.2.1) w d.2.2.2 d.2.2.1 else 0
def itL (x w : Nat) : List mE → Nat
  | [] => 0
  | d :: l => itV x w d + itL x w l
def rspE (E : List mE) (d : mE) : Int32 := rsp (fun w => bkL d.1 E + itL d.1 w E) (d.2.2.2 + wN d.2.1) d.2.2.1 5001 (bkL d.1 E)
def misL (E : List mE) : List mE → Nat
  | [] => 0
  | d :: l => (if rspE E d = -5 then 1 else 0) + misL E l
def dE (e : Nat → Nat) (i : Nat) : mE := (e (4 * i), e (4 * i + 1), e (4 * i + 2), e (4 * i + 3))
def msD (e : Nat → Nat) (n : Nat) : List mE := (List.range n).map (dE e)
theorem bkL_app {x : Nat} : ∀ (A B : List mE), bkL x (A ++ B) = max (bkL x A) (bkL x B)
  | [], B => by simp [bkL]
  | d :: A, B => by
    show max (bkV x d) (bkL x (A ++ B)) = max (max (bkV x d) (bkL x A)) (bkL x B)
    rw [bkL_app A B, Nat.max_assoc]
theorem itL_app {x w : Nat} : ∀ (A B : List mE), itL x w (A ++ B) = itL x w A + itL x w B
  | [], B => by simp [itL]
  | d :: A, B => by
    show itV x w d + itL x w (A ++ B) = itV x w d + itL x w A + itL x w B
    rw [itL_app A B, Nat.add_assoc]
theorem misL_app {E : List mE} : ∀ (A B : List mE), misL E (A ++ B) = misL E A + misL E B
  | [], B => by simp [misL]
  | d :: A, B => by
    show (if rspE E d = -5 then 1 else 0) + misL E (A ++ B) = (if rspE E d = -5 then 1 else 0) + misL E A + misL E B
    rw [misL_app A B, Nat.add_assoc]
theorem bkL_perm {x : Nat} {A B : List mE} (h : A.Perm B) : bkL x A = bkL x B := by
  induction h with
  | nil => rfl
  | cons d _ ih => show max _ _ = max _ _; rw [ih]
  | swap d e l => show max (bkV x e) (max (bkV x d) (bkL x l)) = max (bkV x d) (max (bkV x e) (bkL x l)); omega
  | trans _ _ i1 i2 => rw [i1, i2]
theorem itL_perm {x w : Nat} {A B : List mE} (h : A.Perm B) : itL x w A = itL x w B := by
  induction h with
  | nil => rfl
  | cons d _ ih => show _ + _ = _ + _; rw [ih]
  | swap d e l => show itV x w e + (itV x w d + itL x w l) = itV x w d + (itV x w e + itL x w l); omega
  | trans _ _ i1 i2 => rw [i1, i2]
theorem rspE_perm {A B : List mE} {d : mE} (h : A.Perm B) : rspE A d = rspE B d := by
  unfold rspE
  rw [bkL_perm h, show (fun w => bkL d.1 B + itL d.1 w A) = (fun w => bkL d.1 B + itL d.1 w B) from funext (fun w => by rw [itL_perm h])]
theorem misL_perm {E A B : List mE} (h : A.Perm B) : misL E A = misL E B := by
  induction h with
  | nil => rfl
  | cons d _ ih => show _ + _ = _ + _; rw [ih]
  | swap d e l => show (if rspE E e = -5 then 1 else 0) + ((if rspE E d = -5 then 1 else 0) + misL E l) = (if rspE E d = -5 then 1 else 0) + ((if rspE E e = -5 then 1 else 0) + misL E l); omega
  | trans _ _ i1 i2 => rw [i1, i2]
theorem misL_E {A B : List mE} (h : A.Perm B) : ∀ l : List mE, misL A l = misL B l
  | [] => rfl
  | d :: l => by show _ + _ = _ + _; rw [misL_E h l, rspE_perm h]
theorem msD_s {e : Nat → Nat} {n : Nat} : msD e (n + 1) = msD e n ++ [dE e n] := by unfold msD; rw [List.range_succ, List.map_append]; rfl
theorem blk_D {e : Nat → Nat} {x : Nat} : ∀ n, blk e x n = bkL x (msD e n)
  | 0 => rfl
  | n + 1 => by
    rw [msD_s, bkL_app, ← blk_D n]
    show (if x < e (4 * n) ∧ blk e x n < wN (e (4 * n + 1)) then wN (e (4 * n + 1)) else blk e x n) = max (blk e x n) (max (if x < e (4 * n) then wN (e (4 * n + 1)) else 0) 0)
    split <;> split <;> omega
theorem itf_D {e : Nat → Nat} {x w : Nat} : ∀ n, itf e x w n = itL x w (msD e n)
  | 0 => rfl
  | n + 1 => by
    rw [msD_s, itL_app, ← itf_D n]
    rfl
theorem rspT_D {e : Nat → Nat} {mc i : Nat} : rspT e mc i = rspE (msD e mc) (dE e i) := by
  unfold rspT rspE nxT
  rw [blk_D, show (fun w => bkL (e (4 * i)) (msD e mc) + itf e (e (4 * i)) w mc) = (fun w => bkL (e (4 * i)) (msD e mc) + itL (e (4 * i)) w (msD e mc)) from funext (fun w => by rw [itf_D])]
  rfl
theorem missT_D {e : Nat → Nat} {mc : Nat} : ∀ n, missT e mc n = misL (msD e mc) (msD e n)
  | 0 => rfl
  | n + 1 => by
    rw [msD_s, misL_app, ← missT_D n]
    show missT e mc n + (if rspT e mc n = -5 then 1 else 0) = missT e mc n + ((if rspE (msD e mc) (dE e n) = -5 then 1 else 0) + 0)
    rw [rspT_D, Nat.add_zero]
def okML (E : List mE) : Prop := ∀ d ∈ E, d.1 ≤ 2047 ∧ d.2.1 ≤ 4 ∧ 1 ≤ d.2.2.1 ∧ d.2.2.1 ≤ 5000 ∧ d.2.2.2 ≤ 500
theorem okML.tl {d : mE} {l : List mE} (h : okML (d :: l)) : okML l := fun e he => h e (List.mem_cons_of_mem _ he)
theorem bkL_le {x : Nat} : ∀ {E : List mE}, okML E → bkL x E ≤ 95
  | [], _ => Nat.zero_le _
  | d :: l, h => by
    have h1 := bkL_le (x := x) h.tl
    have h2 := wN_le (h d (List.mem_cons_self ..)).2.1
    show max (bkV x d) (bkL x l) ≤ 95
    unfold bkV
    split <;> omega
theorem itL_le {x w : Nat} (hw : w ≤ 5000) : ∀ {E : List mE}, okML E → itL x w E ≤ 1000000 * E.length
  | [], _ => Nat.zero_le _
  | d :: l, h => by
    have h1 := itL_le (x := x) hw h.tl
    have h2 := h d (List.mem_cons_self ..)
    have h3 := dmd_le (wN_le h2.2.1) hw h2.2.2.2.2 h2.2.2.1 h2.2.2.2.1
    show itV x w d + itL x w l ≤ 1000000 * (l.length + 1)
    unfold itV
    split <;> omega
theorem wN_ge {n : Nat} : 55 ≤ wN n := by unfold wN; omega
theorem dmd_gap {b w w' j p : Nat} (hb : 55 ≤ b) (h : w ≤ w') : dmd b w' j p = dmd b w j p ∨ dmd b w j p + 55 ≤ dmd b w' j p := by
  have hq : (w + j + p) / p ≤ (w' + j + p) / p := Nat.div_le_div_right (by omega)
  unfold dmd
  rcases Nat.lt_or_eq_of_le hq with q | q
  · right
    have h1 := Nat.mul_le_mul_left b q
    rw [Nat.mul_succ] at h1
    omega
  · left; rw [q]
theorem dmd_gap0 {b w j p : Nat} (hb : 55 ≤ b) : dmd b w j p = 0 ∨ 55 ≤ dmd b w j p := by
  unfold dmd
  rcases Nat.eq_zero_or_pos ((w + j + p) / p) with q | q
  · left; rw [q]; rfl
  · right
    have h1 := Nat.mul_le_mul_left b q
    rw [Nat.mul_one] at h1
    omega
theorem itL_gap {x w w' : Nat} (h : w ≤ w') : ∀ E : List mE, itL x w' E = itL x w E ∨ itL x w E + 55 ≤ itL x w' E
  | [] => Or.inl rfl
  | d :: l => by
    have h1 := itL_gap (x := x) h l
    have h2 := dmd_gap (j := d.2.2.2) (p := d.2.2.1) (wN_ge (n := d.2.1)) h
    show itV x w' d + itL x w' l = itV x w d + itL x w l ∨ itV x w d + itL x w l + 55 ≤ itV x w' d + itL x w' l
    unfold itV
    split <;> omega
theorem itL_gap0 {x w : Nat} : ∀ E : List mE, itL x w E = 0 ∨ 55 ≤ itL x w E
  | [] => Or.inl rfl
  | d :: l => by
    have h1 := itL_gap0 (x := x) (w := w) l
    have h2 := dmd_gap0 (w := w) (j := d.2.2.2) (p := d.2.2.1) (wN_ge (n := d.2.1))
    show itV x w d + itL x w l = 0 ∨ 55 ≤ itV x w d + itL x w l
    unfold itV
    split <;> omega
/-- a window: the blocking and the interference of an earlier, smaller window -/
def wnd (x b : Nat) (E : List mE) (w : Nat) : Prop := w = b ∨ ∃ v, v ≤ w ∧ w = b + itL x v E
theorem wnd.gap {x b w : Nat} {E : List mE} (h : wnd x b E w) : b + itL x w E = w ∨ w + 55 ≤ b + itL x w E := by
  rcases h with rfl | ⟨v, h1, h2⟩
  · have := itL_gap0 (x := x) (w := w) E; omega
  · have := itL_gap (x := x) h1 E; omega
theorem wnd.nx {x b w : Nat} {E : List mE} (h : wnd x b E w) : wnd x b E (b + itL x w E) :=
  Or.inr ⟨w, by have := h.gap; omega, rfl⟩
/-! the relation -/
def evC (g : Nat → Int32) (k : Nat) : Nat := (g k).toNatClampNeg
theorem evC_n {g : Nat → Int32} {k n : Nat} (h : g k = nI n) (hn : n < 2 ^ 31) : evC g k = n := by unfold evC; rw [h]; exact nI_clamp hn
def rM (g : Nat → Int32) (mc : Nat) (C : List (Int32 × Nat)) (md : Nat → mE) : Prop :=
  mc ≤ 8 ∧ okE (evC g) mc ∧ (∀ k, k < 4 * mc → g k = nI (evC g k)) ∧ srtC C ∧ (∀ e ∈ C, e.1 = nI (md e.2).1) ∧ (∀ i j, i < mc → j < mc → evC g (4 * i) = evC g (4 * j) → i = j) ∧ ∀ d, (∃ i, i < mc ∧ d = dE (evC g) i) ↔ ∃ e ∈ C, d = md e.2
theorem rM.nil {g : Nat → Int32} {md : Nat → mE} : rM g 0 [] md :=
  ⟨by omega, fun i hi => by omega, fun k hk => by omega, List.Pairwise.nil, fun e he => by cases he, fun i j hi => by omega, fun d => ⟨fun ⟨i, hi, _⟩ => by omega, fun ⟨e, he, _⟩ => by cases he⟩⟩
theorem rM.key {g : Nat → Int32} {mc : Nat} {C : List (Int32 × Nat)} {md : Nat → mE} (h : rM g mc C md) {e : Int32 × Nat} (he : e ∈ C) : (md e.2).1 ≤ 2047 ∧ (md e.2).2.1 ≤ 4 ∧ 1 ≤ (md e.2).2.2.1 ∧ (md e.2).2.2.1 ≤ 5000 ∧ (md e.2).2.2.2 ≤ 500 := by
  obtain ⟨h1, h2, h3, h4, h5, h6, h7⟩ := h
  obtain ⟨i, hi, q⟩ := (h7 (md e.2)).mpr ⟨e, he, rfl⟩
  have := h2 i hi
  rw [q]; exact this
theorem rM.ok {g : Nat → Int32} {mc : Nat} {C : List (Int32 × Nat)} {md : Nat → mE} (h : rM g mc C md) : okML (C.map (fun e => md e.2)) := by
  intro d hd
  obtain ⟨e, he, rfl⟩ := List.mem_map.mp hd
  exact h.key he
theorem rM.perm {g : Nat → Int32} {mc : Nat} {C : List (Int32 × Nat)} {md : Nat → mE} (h : rM g mc C md) : (msD (evC g) mc).Perm (C.map (fun e => md e.2)) := by
  have hk := fun e he => h.key (e := e) he
  obtain ⟨h1, h2, h3, h4, h5, h6, h7⟩ := h
  refine (List.perm_ext_iff_of_nodup ?_ ?_).mpr (fun d => ?_)
  · unfold msD List.Nodup
    rw [List.pairwise_map]
    refine List.Pairwise.imp_of_mem ?_ (List.nodup_range (n := mc))
    intro a b ha hb hab q
    exact hab (h6 a b (List.mem_range.mp ha) (List.mem_range.mp hb) (congrArg Prod.fst q))
  · unfold List.Nodup
    rw [List.pairwise_map]
    refine List.Pairwise.imp_of_mem ?_ h4
    intro a b ha hb hab q
    rw [h5 a ha, h5 b hb, q] at hab
    exact i32ir _ hab
  · unfold msD
    rw [List.mem_map, List.mem_map]
    constructor
    · intro ⟨i, hi, q⟩
      obtain ⟨e, he, q'⟩ := (h7 d).mp ⟨i, List.mem_range.mp hi, q.symm⟩
      exact ⟨e, he, q'.symm⟩
    · intro ⟨e, he, q⟩
      obtain ⟨i, hi, q'⟩ := (h7 d).mpr ⟨e, he, q.symm⟩
      exact ⟨i, List.mem_range.mpr hi, q'.symm⟩
theorem rM.len {g : Nat → Int32} {mc : Nat} {C : List (Int32 × Nat)} {md : Nat → mE} (h : rM g mc C md) : C.length = mc := by
  have := h.perm.length_eq
  unfold msD at this
  rw [List.length_map, List.length_map, List.length_range] at this
  exact this.symm
theorem rM.none {g : Nat → Int32} {mc : Nat} {C : List (Int32 × Nat)} {md : Nat → mE} {x : Int32} (h : rM g mc C md) (hn : ∀ i, i < mc → ¬ g (4 * i) = x) : tget C x = none := by
  obtain ⟨h1, h2, h3, h4, h5, h6, h7⟩ := h
  cases q : tget C x with
  | none => rfl
  | some m =>
    have he := tget_some q
    obtain ⟨i, hi, q'⟩ := (h7 (md m)).mpr ⟨_, he, rfl⟩
    refine absurd ?_ (hn i hi)
    rw [h3 (4 * i) (by omega), show evC g (4 * i) = (md m).1 from (congrArg Prod.fst q').symm, ← h5 _ he]
theorem rM.some {g : Nat → Int32} {mc ai : Nat} {C : List (Int32 × Nat)} {md : Nat → mE} {x : Int32} (h : rM g mc C md) (ha : ai < mc) (hx : g (4 * ai) = x) : ∃ m, tget C x = some m ∧ md m = dE (evC g) ai := by
  have hk := fun e he => h.key (e := e) he
  obtain ⟨h1, h2, h3, h4, h5, h6, h7⟩ := h
  obtain ⟨e, he, q⟩ := (h7 (dE (evC g) ai)).mp ⟨ai, ha, rfl⟩
  have e1 : e.1 = x := by rw [h5 e he, ← q, ← hx, h3 (4 * ai) (by omega)]; rfl
  cases q' : tget C x with
  | none => exact absurd e1 (tget_none q' e he)
  | some m =>
    refine ⟨m, rfl, ?_⟩
    have hm := tget_some q'
    obtain ⟨j, hj, r⟩ := (h7 (md m)).mpr ⟨_, hm, rfl⟩
    have hkm := hk _ hm
    have hke := h2 ai ha
    have : evC g (4 * j) = evC g (4 * ai) := by
      have e2 : nI (md m).1 = nI (evC g (4 * ai)) := by rw [← h5 _ hm, ← h3 (4 * ai) (by omega)]; exact hx.symm
      have e3 := nn_eq (by omega) (by omega) e2
      rw [← e3, r]; rfl
    rw [r, h6 j ai hj ha this]
def mdU (md : Nat → mE) (a : Nat) (d : mE) (b : Nat) : mE := if b = a then d else md b
theorem okP.n {x ln pe ji : Int32} (h : okP x ln pe ji) : ∃ xn l p j : Nat, (x = nI xn ∧ xn ≤ 2047) ∧ (ln = nI l ∧ l ≤ 4) ∧ (pe = nI p ∧ 1 ≤ p ∧ p ≤ 5000) ∧ (ji = nI j ∧ j ≤ 500) := by
  obtain ⟨⟨⟨a1, a2⟩, b1, b2⟩, ⟨c1, c2⟩, d1, d2⟩ := h
  obtain ⟨xn, x1, x2⟩ := nI_of2 (M := 2047) (n := 2047) (by decide) (Int32.not_lt.mpr a1) a2
  obtain ⟨l, l1, l2⟩ := nI_of2 (M := 4) (n := 4) (by decide) (Int32.not_lt.mpr b1) b2
  obtain ⟨p, p1, p2⟩ := nI_of2 (M := 5000) (n := 5000) (by decide) (fun q => absurd c1 (Int32.not_le.mpr (Int32.lt_trans q (by decide)))) c2
  obtain ⟨j, j1, j2⟩ := nI_of2 (M := 500) (n := 500) (by decide) (Int32.not_lt.mpr d1) d2
  refine ⟨xn, l, p, j, ⟨x2, x1⟩, ⟨l2, l1⟩, ⟨p2, ?_, p1⟩, j2, j1⟩
  subst p2
  exact nn_le (a := 1) (by omega) (by omega) c1
theorem msW_rd {g : Nat → Int32} {i : Nat} {x ln pe ji : Int32} : msW g i x ln pe ji (4 * i) = x ∧ msW g i x ln pe ji (4 * i + 1) = ln ∧ msW g i x ln pe ji (4 * i + 2) = pe ∧ msW g i x ln pe ji (4 * i + 3) = ji ∧ ∀ k, (k < 4 * i ∨ 4 * i + 4 ≤ k) → msW g i x ln pe ji k = g k := by
  unfold msW
  refine ⟨?_, ?_, ?_, ?_, fun k hk => ?_⟩
  · rw [pk_un (by omega), pk_un (by omega), pk_un (by omega), pk_us]
  · rw [pk_un (by omega), pk_un (by omega), pk_us]
  · rw [pk_un (by omega), pk_us]
  · rw [pk_us]
  · rw [pk_un (by omega), pk_un (by omega), pk_un (by omega), pk_un (by omega)]
theorem rM.put {g : Nat → Int32} {mc mc' i a xn l p j : Nat} {C : List (Int32 × Nat)} {md : Nat → mE} (h : rM g mc C md) (ha : ∀ e ∈ C, e.2 ≠ a) (h1 : xn ≤ 2047) (h2 : l ≤ 4) (h3 : 1 ≤ p ∧ p ≤ 5000) (h4 : j ≤ 500) (hi : (i = mc ∧ mc' = mc + 1 ∧ mc < 8 ∧ ∀ k, k < mc → ¬ g (4 * k) = nI xn) ∨ (i < mc ∧ mc' = mc ∧ g (4 * i) = nI xn)) : rM (msW g i (nI xn) (nI l) (nI p) (nI j)) mc' (tput C (nI xn) a) (mdU md a (xn, l, p, j)) := by
  have hk0 := fun e he => h.key (e := e) he
  obtain ⟨r1, r2, r3, r4, r5, r6, r7⟩ := h
  obtain ⟨w0, w1, w2, w3, w4⟩ := msW_rd (g := g) (i := i) (x := nI xn) (ln := nI l) (pe := nI p) (ji := nI j)
  obtain ⟨F, hF⟩ : ∃ z, z = msW g i (nI xn) (nI l) (nI p) (nI j) := ⟨_, rfl⟩
  rw [← hF] at w0 w1 w2 w3 w4 ⊢
  have v0 := evC_n w0 (by omega)
  have v1 := evC_n w1 (by omega)
  have v2 := evC_n w2 (by omega)
  have v3 := evC_n w3 (by omega)
  have v4 : ∀ k, (k < 4 * i ∨ 4 * i + 4 ≤ k) → evC F k = evC g k := fun k hk => by unfold evC; rw [w4 k hk]
  have dI : dE (evC F) i = (xn, l, p, j) := by unfold dE; rw [v0, v1, v2, v3]
  have dO : ∀ k, k ≠ i → dE (evC F) k = dE (evC g) k := fun k hk => by unfold dE; rw [v4 _ (by omega), v4 _ (by omega), v4 _ (by omega), v4 _ (by omega)]
  have hmc : mc ≤ mc' ∧ mc' ≤ 8 ∧ i < mc' ∧ ∀ k, k < mc' → k ≠ i → k < mc := by
    rcases hi with ⟨q1, q2, q3, -⟩ | ⟨q1, q2, -⟩
    · exact ⟨by omega, by omega, by omega, fun k hk hn => by omega⟩
    · exact ⟨by omega, by omega, by omega, fun k hk hn => by omega⟩
  obtain ⟨m1, m2, m3, m4⟩ := hmc
  have kx : ∀ k, k < mc → k ≠ i → evC g (4 * k) ≠ xn := by
    intro k hk hn q
    have e : g (4 * k) = nI xn := by rw [r3 _ (by omega), q]
    rcases hi with ⟨q1, q2, q3, q4⟩ | ⟨q1, q2, q3⟩
    · exact q4 k hk e
    · exact hn (r6 k i hk q1 (by rw [q, evC_n q3 (by omega)]))
  have mdo : ∀ e ∈ C, mdU md a (xn, l, p, j) e.2 = md e.2 := fun e he => if_neg (ha e he)
  have mda : mdU md a (xn, l, p, j) a = (xn, l, p, j) := if_pos rfl
  refine ⟨m2, ?_, ?_, tput_srt C r4, ?_, ?_, ?_⟩
  · intro k hk
    by_cases q : k = i
    · subst q; rw [v0, v1, v2, v3]; exact ⟨h1, h2, h3.1, h3.2, h4⟩
    · have := r2 k (m4 k hk q)
      rw [v4 _ (by omega), v4 _ (by omega), v4 _ (by omega), v4 _ (by omega)]; exact this
  · intro k hk
    by_cases q : k < 4 * i ∨ 4 * i + 4 ≤ k
    · rw [v4 k q, w4 k q]
      have := m4 (k / 4) (by omega) (by omega)
      exact r3 k (by omega)
    · rcases (show k = 4 * i ∨ k = 4 * i + 1 ∨ k = 4 * i + 2 ∨ k = 4 * i + 3 by omega) with z | z | z | z
      · subst z; rw [v0, w0]
      · subst z; rw [v1, w1]
      · subst z; rw [v2, w2]
      · subst z; rw [v3, w3]
  · intro e he
    rcases (tput_mem C r4).mp he with q | ⟨q, -⟩
    · subst q; show nI xn = nI (mdU md a (xn, l, p, j) a).1; rw [mda]
    · rw [mdo e q]; exact r5 e q
  · intro u v hu hv q
    by_cases z1 : u = i
    · by_cases z2 : v = i
      · omega
      · subst z1; rw [v0, v4 _ (by omega)] at q; exact absurd q.symm (kx v (m4 v hv z2) z2)
    · by_cases z2 : v = i
      · subst z2; rw [v0, v4 _ (by omega)] at q; exact absurd q (kx u (m4 u hu z1) z1)
      · rw [v4 _ (by omega), v4 _ (by omega)] at q; exact r6 u v (m4 u hu z1) (m4 v hv z2) q
  · intro d
    constructor
    · intro ⟨k, hk, hd⟩
      by_cases q : k = i
      · subst q
        exact ⟨(nI xn, a), (tput_mem C r4).mpr (Or.inl rfl), by rw [hd, dI]; exact mda.symm⟩
      · obtain ⟨e, he, z⟩ := (r7 d).mp ⟨k, m4 k hk q, by rw [hd, dO k q]⟩
        refine ⟨e, (tput_mem C r4).mpr (Or.inr ⟨he, fun y => ?_⟩), by rw [mdo e he]; exact z⟩
        have hke := hk0 e he
        have e1 := nn_eq (by omega) (by omega) ((r5 e he).symm.trans y)
        refine kx k (m4 k hk q) q ?_
        rw [← e1, ← z, hd, dO k q]; rfl
    · intro ⟨e, he, hd⟩
      rcases (tput_mem C r4).mp he with q | ⟨q, y⟩
      · subst q; exact ⟨i, m3, by rw [dI, hd]; exact mda⟩
      · rw [mdo e q] at hd
        obtain ⟨k, hk, z⟩ := (r7 d).mpr ⟨e, q, hd⟩
        have hn : k ≠ i := by
          intro w
          subst w
          rcases hi with ⟨q1, q2, q3, q4⟩ | ⟨q1, q2, q3⟩
          · omega
          · refine y ?_
            rw [r5 e q, ← hd, z, ← q3, r3 (4 * k) (by omega)]; rfl
        exact ⟨k, by omega, by rw [z, dO k hn]⟩
theorem rM.rem {g : Nat → Int32} {mc ai : Nat} {C : List (Int32 × Nat)} {md : Nat → mE} {x : Int32} (h : rM g mc C md) (ha : ai < mc) (hx : g (4 * ai) = x) : rM (cpT g 4 (4 * ai) (4 * (mc - 1) - 4 * ai)) (mc - 1) (trem C x) md := by
  have hk0 := fun e he => h.key (e := e) he
  obtain ⟨r1, r2, r3, r4, r5, r6, r7⟩ := h
  obtain ⟨F, hF⟩ : ∃ z, z = cpT g 4 (4 * ai) (4 * (mc - 1) - 4 * ai) := ⟨_, rfl⟩
  have w : ∀ k, F k = if 4 * ai ≤ k ∧ k < 4 * ai + (4 * (mc - 1) - 4 * ai) then g (k + 4) else g k := fun k => by rw [hF]; exact cpT_rd (by omega) _ _
  rw [← hF]
  have wl : ∀ k, k < 4 * ai → F k = g k := fun k hk => by rw [w, if_neg (by omega)]
  have wh : ∀ k, 4 * ai ≤ k → k < 4 * (mc - 1) → F k = g (k + 4) := fun k hk h2 => by rw [w, if_pos (by omega)]
  have vl : ∀ k, k < 4 * ai → evC F k = evC g k := fun k hk => by unfold evC; rw [wl k hk]
  have vh : ∀ k, 4 * ai ≤ k → k < 4 * (mc - 1) → evC F k = evC g (k + 4) := fun k hk h2 => by unfold evC; rw [wh k hk h2]
  have dl : ∀ i, i < ai → dE (evC F) i = dE (evC g) i := fun i hi => by unfold dE; rw [vl _ (by omega), vl _ (by omega), vl _ (by omega), vl _ (by omega)]
  have dh : ∀ i, ai ≤ i → i < mc - 1 → dE (evC F) i = dE (evC g) (i + 1) := fun i hi h2 => by
    unfold dE
    rw [vh _ (by omega) (by omega), vh _ (by omega) (by omega), vh _ (by omega) (by omega), vh _ (by omega) (by omega)]
    rfl
  have key : ∀ i, i < mc - 1 → ∃ i', i' < mc ∧ i' ≠ ai ∧ dE (evC F) i = dE (evC g) i' ∧ (i' = i ∧ i < ai ∨ i' = i + 1 ∧ ai ≤ i) := fun i hi => by
    by_cases q : i < ai
    · exact ⟨i, by omega, by omega, dl i q, Or.inl ⟨rfl, q⟩⟩
    · exact ⟨i + 1, by omega, by omega, dh i (by omega) hi, Or.inr ⟨rfl, by omega⟩⟩
  refine ⟨by omega, ?_, ?_, r4.filter _, ?_, ?_, ?_⟩
  · intro i hi
    obtain ⟨i', z1, z2, z3, z4⟩ := key i hi
    have := r2 i' z1
    have e0 := congrArg Prod.fst z3
    have e1 := congrArg (fun z => z.2.1) z3
    have e2 := congrArg (fun z => z.2.2.1) z3
    have e3 := congrArg (fun z => z.2.2.2) z3
    simp only [dE] at e0 e1 e2 e3
    rw [e0, e1, e2, e3]; exact this
  · intro k hk
    by_cases q : k < 4 * ai
    · rw [wl k q, vl k q]; exact r3 k (by omega)
    · rw [wh k (by omega) hk, vh k (by omega) hk]; exact r3 _ (by omega)
  · intro e he; exact r5 e (trem_mem.mp he).1
  · intro i j hi hj q
    obtain ⟨i', z1, z2, z3, z4⟩ := key i hi
    obtain ⟨j', y1, y2, y3, y4⟩ := key j hj
    have e0 := congrArg Prod.fst z3
    have e1 := congrArg Prod.fst y3
    simp only [dE] at e0 e1
    have := r6 i' j' z1 y1 (by rw [← e0, ← e1, q])
    omega
  · intro d
    constructor
    · intro ⟨i, hi, hd⟩
      obtain ⟨i', z1, z2, z3, z4⟩ := key i hi
      obtain ⟨e, he, q⟩ := (r7 d).mp ⟨i', z1, by rw [hd, z3]⟩
      refine ⟨e, trem_mem.mpr ⟨he, fun y => z2 (r6 i' ai z1 ha ?_)⟩, q⟩
      have hke := hk0 e he
      have e1 : nI (md e.2).1 = nI (evC g (4 * ai)) := by rw [← r5 e he, y, ← hx]; exact r3 _ (by omega)
      have hb := r2 ai ha
      have e2 := nn_eq (by omega) (by omega) e1
      rw [← e2, ← q, hd, z3]; rfl
    · intro ⟨e, he, hd⟩
      obtain ⟨he1, he2⟩ := trem_mem.mp he
      obtain ⟨k, hk, z⟩ := (r7 d).mpr ⟨e, he1, hd⟩
      have hn : k ≠ ai := by
        intro w9
        subst w9
        refine he2 ?_
        rw [r5 e he1, ← hd, z, ← hx, r3 (4 * k) (by omega)]; rfl
      by_cases q : k < ai
      · exact ⟨k, by omega, by rw [dl k q]; exact z⟩
      · refine ⟨k - 1, by omega, ?_⟩
        rw [dh (k - 1) (by omega) (by omega), show k - 1 + 1 = k by omega]; exact z
