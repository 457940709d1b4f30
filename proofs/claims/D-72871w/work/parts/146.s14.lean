/-! the bus: driving, disturbances, a whole bit time -/
set_option maxRecDepth 100000
def nDr (x : NS) (v : Int32) : NS := ((nDrvX x).ph, (nDrvX x).cu, upd (nDrvX x).g 9 v, (nDrvX x).s, (nDrvX x).e, (nDrvX x).W, (nDrvX x).R, (nDrvX x).C, (nDrvX x).ad)
theorem nDrvX_ph {x : NS} : (nDrvX x).ph = x.ph := by unfold nDrvX; split <;> rfl
theorem nDrvX_g {x : NS} : (nDrvX x).g = x.g := by unfold nDrvX; split <;> rfl
theorem nDrvX_s {x : NS} : (nDrvX x).s = x.s := by unfold nDrvX; split <;> rfl
theorem nDrvX_W {x : NS} : (nDrvX x).W = x.W := by unfold nDrvX; split <;> rfl
theorem nDrvX_cu {x : NS} (h : x.ph ≠ 3) : (nDrvX x).cu = x.cu := by unfold nDrvX; rw [if_neg h]
theorem nDr_cu {x : NS} {v : Int32} {ca pn ln : Nat} {d : frD} (h : nCur x ca d pn ln) : (nDr x v).ph = 4 → ¬ (nDr x v).g 2 = 0 → (nDr x v).cu = some ca := by
  intro a b
  have a : x.ph = 4 := by have : (nDrvX x).ph = 4 := a; rw [nDrvX_ph] at this; exact this
  have b : ¬ x.g 2 = 0 := by have : ¬ (nDrvX x).g 2 = 0 := b; rw [nDrvX_g] at this; exact this
  show (nDrvX x).cu = some ca
  rw [nDrvX_cu (by omega)]
  exact (h a b).1
/-- the set of the nodes that are disturbed at a time -/
def cSet (tm : Int32) : List dsE → Int32 → Int32
  | [], a => a
  | e :: D, a => cSet tm D (if e.2.2.2 = tm then a ||| e.2.2.1 else a)
def dLeft (tm : Int32) (D : List dsE) : List dsE := D.filter (fun e => decide (¬ e.2.2.2 = tm))
def rD (f : Nat → Int32) (D : List dsE) (tn : Nat) : Prop := D.length ≤ 8 ∧ f 1028 = nI D.length ∧ ∀ i e, D[i]? = some e → f (2 * i + 1029) = e.2.2.2 ∧ f (2 * i + 1030) = e.2.2.1 ∧ ∃ m, e.2.2.2 = nI m ∧ tn ≤ m ∧ m < 2000000
theorem rD.fr {F f : Nat → Int32} {D : List dsE} {tn : Nat} (h : rD f D tn) (hF : ∀ c, 1028 ≤ c → c < 1050 → F c = f c) : rD F D tn := by
  obtain ⟨h1, h2, h3⟩ := h
  refine ⟨h1, by rw [hF 1028 (by omega) (by omega)]; exact h2, fun i e he => ?_⟩
  have hi : i < D.length := (List.getElem?_eq_some_iff.mp he).1
  rw [hF _ (by omega) (by omega), hF _ (by omega) (by omega)]
  exact h3 i e he
theorem cSet_or {tm : Int32} : ∀ (D : List dsE) (e : dsE) (a : Int32), cSet tm (D ++ [e]) a = if e.2.2.2 = tm then cSet tm D a ||| e.2.2.1 else cSet tm D a
  | [], e, a => rfl
  | d :: D, e, a => cSet_or D e _
theorem ivT_c {f : Nat → Int32} {tm : Int32} : ∀ (D : List dsE), (∀ i e, D[i]? = some e → f (2 * i + 1029) = e.2.2.2 ∧ f (2 * i + 1030) = e.2.2.1) → f 1024 = tm → ivT f D.length = cSet tm D 0 := by
  intro D
  generalize hn : D.length = n
  induction n generalizing D with
  | zero => intro _ _; cases D with | nil => rfl | cons a b => cases hn
  | succ n ih =>
    intro h ht
    rcases ll_cc D with rfl | ⟨A, z, rfl⟩
    · cases hn
    · have hA : A.length = n := by rw [List.length_append] at hn; simpa using hn
      have h2 : (A ++ [z])[n]? = some z := by rw [List.getElem?_append_right (by omega), hA, Nat.sub_self]; rfl
      obtain ⟨e1, e2⟩ := h n z h2
      show ivT f n ||| (if f (2 * n + 1029) = f 1024 then f (2 * n + 1030) else 0) = _
      rw [ih A hA (fun i e he => h i e (by rw [List.getElem?_append_left (by have := (List.getElem?_eq_some_iff.mp he).1; exact this)]; exact he)) ht, cSet_or, e1, e2, ht]
      by_cases q : z.2.2.2 = tm
      · rw [if_pos q, if_pos q]
      · rw [if_neg q, if_neg q]; exact Int32.or_zero
/-- those that are past go -/
theorem ps_spec {tn : Nat} : ∀ (B : List dsE) (A : List dsE) (i : Nat) (F : Nat → Int32), A.length ≤ i → i + B.length ≤ 8 → F 1024 = nI (tn + 1) → tn < 1000000 → (∀ j e, A[j]? = some e → F (2 * j + 1029) = e.2.2.2 ∧ F (2 * j + 1030) = e.2.2.1) → (∀ j e, B[j]? = some e → F (2 * (i + j) + 1029) = e.2.2.2 ∧ F (2 * (i + j) + 1030) = e.2.2.1 ∧ ∃ m, e.2.2.2 = nI m ∧ tn ≤ m ∧ m < 2000000) →
    ∃ R, (psT B.length i A.length F) = (R, (A ++ dLeft (nI tn) B).length) ∧ (∀ j e, (A ++ dLeft (nI tn) B)[j]? = some e → R (2 * j + 1029) = e.2.2.2 ∧ R (2 * j + 1030) = e.2.2.1) ∧ ∀ c, (c < 1029 ∨ 1045 ≤ c) → R c = F c
  | [], A, i, F, _, _, _, _, hA, _ => ⟨F, by unfold dLeft; simp [psT], by unfold dLeft; simpa using hA, fun _ _ => rfl⟩
  | b :: B, A, i, F, h1, h2, ht, hn, hA, hB => by
    simp only [List.length_cons] at h2
    obtain ⟨b1, b2, m, b3, b4, b5⟩ := hB 0 b rfl
    simp only [Nat.add_zero] at b1 b2
    have hlt : (F (2 * i + 1029) < F 1024) ↔ m = tn := by
      rw [b1, b3, ht]
      exact (nI_ltI (by omega) (by omega)).trans (by omega)
    have hP : (¬ b.2.2.2 = nI tn) ↔ ¬ m = tn := by
      rw [b3]
      exact not_congr (nI_eq (by omega) (by omega))
    by_cases q : m = tn
    · have e1 : dLeft (nI tn) (b :: B) = dLeft (nI tn) B := by
        unfold dLeft
        rw [List.filter_cons_of_neg (by simpa using (show b.2.2.2 = nI tn by rw [b3, q]))]
      rw [e1]
      have := ps_spec (tn := tn) B A (i + 1) F (by omega) (by omega) ht hn hA (fun j e he => by
        have := hB (j + 1) e he
        rw [show i + (j + 1) = i + 1 + j by omega] at this
        exact this)
      obtain ⟨R, r1, r2, r3⟩ := this
      refine ⟨R, ?_, r2, r3⟩
      show psT (B.length + 1) i A.length F = _
      unfold psT
      rw [if_pos (hlt.mpr q)]
      exact r1
    · have e1 : A ++ dLeft (nI tn) (b :: B) = (A ++ [b]) ++ dLeft (nI tn) B := by
        unfold dLeft
        rw [List.filter_cons_of_pos (by simpa using hP.mpr q), List.append_assoc]
        rfl
      rw [e1]
      obtain ⟨F1, ef1⟩ : ∃ z, z = upd F (2 * A.length + 1029) (F (2 * i + 1029)) := ⟨_, rfl⟩
      obtain ⟨F2, ef2⟩ : ∃ z, z = upd F1 (2 * A.length + 1030) (F1 (2 * i + 1030)) := ⟨_, rfl⟩
      have u0 : F1 (2 * i + 1030) = b.2.2.1 := by rw [ef1, pk_un (by omega)]; exact b2
      have w0 : F2 (2 * A.length + 1029) = b.2.2.2 := by rw [ef2, pk_un (by omega), ef1, pk_us]; exact b1
      have w1 : F2 (2 * A.length + 1030) = b.2.2.1 := by rw [ef2, pk_us]; exact u0
      have wo : ∀ c, c ≠ 2 * A.length + 1029 → c ≠ 2 * A.length + 1030 → F2 c = F c := fun c z1 z2 => by rw [ef2, pk_un z2, ef1, pk_un z1]
      have hl : (A ++ [b]).length = A.length + 1 := by simp
      have := ps_spec (tn := tn) B (A ++ [b]) (i + 1) F2 (by omega) (by omega) ((wo 1024 (by omega) (by omega)).trans ht) hn (fun j e he => by
        have hj : j < A.length + 1 := by have := (List.getElem?_eq_some_iff.mp he).1; rw [hl] at this; exact this
        by_cases z : j < A.length
        · rw [List.getElem?_append_left z] at he
          rw [wo _ (by omega) (by omega), wo _ (by omega) (by omega)]
          exact hA j e he
        · obtain rfl : j = A.length := by omega
          rw [List.getElem?_append_right (Nat.le_refl _), Nat.sub_self] at he
          have he : b = e := Option.some.inj he
          subst he
          exact ⟨w0, w1⟩) (fun j e he => by
        have := hB (j + 1) e he
        rw [show i + (j + 1) = i + 1 + j by omega] at this
        rw [wo _ (by omega) (by omega), wo _ (by omega) (by omega)]
        exact this)
      obtain ⟨R, r1, r2, r3⟩ := this
      refine ⟨R, ?_, r2, fun c hc => (r3 c hc).trans (wo c (by omega) (by omega))⟩
      show psT (B.length + 1) i A.length F = _
      unfold psT
      rw [if_neg (fun z => q (hlt.mp z)), ← r1, hl, ef2, ef1]
theorem sim_pass {f : Nat → Int32} {D : List dsE} {tn : Nat} (h : rD f D tn) (ht : f 1024 = nI (tn + 1)) (hn : tn < 1000000) : rD (T_pass f D.length) (dLeft (nI tn) D) (tn + 1) ∧ ∀ c, (c < 1028 ∨ 1045 ≤ c) → T_pass f D.length c = f c := by
  obtain ⟨h1, h2, h3⟩ := h
  obtain ⟨R, r1, r2, r3⟩ := ps_spec (tn := tn) D [] 0 f (by simp) (by omega) ht hn (fun j e he => by cases he) (fun j e he => by rw [Nat.zero_add]; exact h3 j e he)
  simp only [List.nil_append, List.length_nil] at r1 r2
  have hl : (dLeft (nI tn) D).length ≤ D.length := List.length_filter_le _ _
  unfold T_pass
  rw [r1]
  refine ⟨⟨by omega, pk_us, fun i e he => ?_⟩, fun c hc => (pk_un (by omega)).trans (r3 c (by omega))⟩
  obtain ⟨a1, a2⟩ := r2 i e he
  have hm : e ∈ dLeft (nI tn) D := List.mem_of_getElem? he
  have hm2 := List.mem_filter.mp hm
  obtain ⟨j, hj⟩ := List.getElem?_of_mem hm2.1
  obtain ⟨-, -, m, b1, b2, b3⟩ := h3 j e hj
  have hne : ¬ e.2.2.2 = nI tn := by simpa using hm2.2
  refine ⟨(pk_un (by omega)).trans a1, (pk_un (by omega)).trans a2, m, b1, ?_, b3⟩
  have : m ≠ tn := fun z => hne (by rw [b1, z])
  omega
/-- the bus against the reference's state -/
def relB (f : Nat → Int32) (q : Nat) (x0 x1 x2 x3 : NS) (D : List dsE) (hs : Nat → Int32) (tn : Nat) (pl ol rv : Int32) : Prop :=
  (relN f 0 q x0 ∧ relN f 1 q x1 ∧ relN f 2 q x2 ∧ relN f 3 q x3) ∧ (f 1024 = nI tn ∧ tn ≤ q) ∧ (f 1025 = pl ∧ f 1026 = ol ∧ f 1027 = rv) ∧ (∃ p, 8 ≤ p ∧ p ≤ 128 ∧ pl = nI p) ∧ rD f D tn ∧ ∀ i, i < 256 → f (i + 1050) = hs i ∧ (hs i = 0 ∨ hs i = 1)
theorem and01 {x y : Int32} (hx : x = 0 ∨ x = 1) (hy : y = 0 ∨ y = 1) : x &&& y = 0 ∨ x &&& y = 1 := by
  rcases hx with rfl | rfl <;> rcases hy with rfl | rfl <;> decide
theorem xor01 {x y : Int32} (hx : x = 0 ∨ x = 1) (hy : y = 0 ∨ y = 1) : x ^^^ y = 0 ∨ x ^^^ y = 1 := by
  rcases hx with rfl | rfl <;> rcases hy with rfl | rfl <;> decide
theorem one01 (x : Int32) : x &&& 1 = 0 ∨ x &&& 1 = 1 := by
  have : (x &&& 1).toBitVec.toNat = x.toBitVec.toNat % 2 := by
    show (x.toBitVec &&& 1#32).toNat = _
    rw [BitVec.toNat_and]
    exact Nat.and_one_is_mod _
  rcases (show x.toBitVec.toNat % 2 = 0 ∨ x.toBitVec.toNat % 2 = 1 by omega) with q | q
  · left; apply Int32.toBitVec_inj.mp; apply BitVec.eq_of_toNat_eq; rw [this, q]; rfl
  · right; apply Int32.toBitVec_inj.mp; apply BitVec.eq_of_toNat_eq; rw [this, q]; rfl
theorem sim_dr {F : Nat → Int32} {k q : Nat} {x : NS} (h : relN F k q x) : relN (upd F (256 * k + 26) (T_drv F k)) k q (nDr x (T_drv F k)) ∧ drvn (upd F (256 * k + 26) (T_drv F k)) k (nDr x (T_drv F k)) := by
  have hc : T_drv (upd F (256 * k + 26) (T_drv F k)) k = T_drv F k := T_drv_c h (fun c h1 h2 => pk_un (by omega))
  obtain ⟨V, hV⟩ := h
  refine ⟨⟨V, sim_drive hV⟩, by rw [hc]; exact pk_us, fun z => ?_⟩
  have z : x.ph = 3 := by have : (nDrvX x).ph = 3 := z; rw [nDrvX_ph] at this; exact this
  show (nDrvX x).cu = (nDrvX x).W.head?.map Prod.fst
  unfold nDrvX
  rw [if_pos z]
theorem blk_ne {F : Nat → Int32} {k j c : Nat} {v : Int32} (hk : k ≠ j) (hc : c < 256) : upd F (256 * k + 26) v (256 * j + c) = F (256 * j + c) := pk_un (by omega)
theorem drvn.fr {F f : Nat → Int32} {k q : Nat} {x : NS} (h : drvn f k x) (hr : relN f k q x) (hF : ∀ c, c < 256 → F (256 * k + c) = f (256 * k + c)) : drvn F k x := by
  refine ⟨?_, h.2⟩
  rw [hF 26 (by omega), T_drv_c hr (fun c h1 _ => hF c h1)]
  exact h.1
theorem sim_act1 {F : Nat → Int32} {k q ca y p : Nat} {x : NS} {sm pl ol rv : Int32} (hk : k < 4) (hq : q < 1000000) (h : relN F k q x) (hd : drvn F k x) (hv : sm = 0 ∨ sm = 1) (hpl : F 1025 = pl) (hol : F 1026 = ol) (hrv : F 1027 = rv) (hpn : pl = nI p) (h8 : 8 ≤ p) (h128 : p ≤ 128) (hy : x.ph = 4 → ∀ e ∈ x.W, e.1 ≠ y) (hcu : x.ph = 4 → ¬ x.g 2 = 0 → x.cu = some ca) :
    relN (T_acts F k sm) k (q + 1) (nAct x sm pl ol rv ca y) ∧ ∀ c, (c < 256 * k ∨ 256 * k + 256 ≤ c) → T_acts F k sm c = F c :=
  ⟨sim_acts hk hq h hv hpl hol hrv hpn h8 h128 hd hy hcu, fun c hc => loc_acts (okN.drv h.ok hd.1) c hc⟩
theorem nar01 {x : Int32} (h : x = 0 ∨ x = 1) : vp_nar .byte (Int32.toInt8 x).toInt32 = x := by
  rcases h with rfl | rfl <;> decide
def bLev (v0 v1 v2 v3 : Int32) : Int32 := (((1 &&& v0) &&& v1) &&& v2) &&& v3
def bSm (v0 v1 v2 v3 set : Int32) (k : Nat) : Int32 := bLev v0 v1 v2 v3 ^^^ ((set >>> (nI k &&& 31)) &&& 1)
set_option maxHeartbeats 4000000 in
theorem sim_step {f : Nat → Int32} {q : Nat} {x0 x1 x2 x3 : NS} {D : List dsE} {hs : Nat → Int32} {tn : Nat} {pl ol rv : Int32} {v0 v1 v2 v3 : Int32} {ca0 ca1 ca2 ca3 y0 y1 y2 y3 : Nat} (h : relB f q x0 x1 x2 x3 D hs tn pl ol rv) (hq : q < 1000000) (e0 : v0 = T_drv f 0) (e1 : v1 = T_drv f 1) (e2 : v2 = T_drv f 2) (e3 : v3 = T_drv f 3)
    (hc0 : (nDr x0 v0).ph = 4 → ¬ (nDr x0 v0).g 2 = 0 → (nDr x0 v0).cu = some ca0) (hc1 : (nDr x1 v1).ph = 4 → ¬ (nDr x1 v1).g 2 = 0 → (nDr x1 v1).cu = some ca1) (hc2 : (nDr x2 v2).ph = 4 → ¬ (nDr x2 v2).g 2 = 0 → (nDr x2 v2).cu = some ca2) (hc3 : (nDr x3 v3).ph = 4 → ¬ (nDr x3 v3).g 2 = 0 → (nDr x3 v3).cu = some ca3)
    (hy0 : (nDr x0 v0).ph = 4 → ∀ e ∈ (nDr x0 v0).W, e.1 ≠ y0) (hy1 : (nDr x1 v1).ph = 4 → ∀ e ∈ (nDr x1 v1).W, e.1 ≠ y1) (hy2 : (nDr x2 v2).ph = 4 → ∀ e ∈ (nDr x2 v2).W, e.1 ≠ y2) (hy3 : (nDr x3 v3).ph = 4 → ∀ e ∈ (nDr x3 v3).W, e.1 ≠ y3) :
    relB (T_bit f) (q + 1) (nAct (nDr x0 v0) (bSm v0 v1 v2 v3 (cSet (nI tn) D 0) 0) pl ol rv ca0 y0) (nAct (nDr x1 v1) (bSm v0 v1 v2 v3 (cSet (nI tn) D 0) 1) pl ol rv ca1 y1) (nAct (nDr x2 v2) (bSm v0 v1 v2 v3 (cSet (nI tn) D 0) 2) pl ol rv ca2 y2) (nAct (nDr x3 v3) (bSm v0 v1 v2 v3 (cSet (nI tn) D 0) 3) pl ol rv ca3 y3) (dLeft (nI tn) D) (upd hs (tn % 256) (vp_nar .byte (Int32.toInt8 (bLev v0 v1 v2 v3)).toInt32)) (tn + 1) pl ol rv := by
  obtain ⟨⟨r0, r1, r2, r3⟩, ⟨ht, htq⟩, ⟨hpl, hol, hrv⟩, ⟨p, p8, p128, pn⟩, hD, hh⟩ := h
  have z0 := T_drv_01 r0
  have z1 := T_drv_01 r1
  have z2 := T_drv_01 r2
  have z3 := T_drv_01 r3
  rw [← e0] at z0
  rw [← e1] at z1
  rw [← e2] at z2
  rw [← e3] at z3
  -- driving
  obtain ⟨f1, E1⟩ : ∃ z, z = upd f (256 * 0 + 26) v0 := ⟨_, rfl⟩
  have n1 : ∀ j c, j ≠ 0 → c < 256 → f1 (256 * j + c) = f (256 * j + c) := fun j c a b => by rw [E1]; exact blk_ne (by omega) b
  have g1 : ∀ c, 1024 ≤ c → f1 c = f c := fun c a => by rw [E1]; exact pk_un (by omega)
  have t11 : T_drv f1 1 = v1 := by rw [e1]; exact T_drv_c r1 (fun c a _ => n1 1 c (by omega) a)
  obtain ⟨f2, E2⟩ : ∃ z, z = upd f1 (256 * 1 + 26) v1 := ⟨_, rfl⟩
  have n2 : ∀ j c, j ≠ 1 → c < 256 → f2 (256 * j + c) = f1 (256 * j + c) := fun j c a b => by rw [E2]; exact blk_ne (by omega) b
  have g2 : ∀ c, 1024 ≤ c → f2 c = f c := fun c a => by rw [E2, pk_un (by omega)]; exact g1 c a
  have t22 : T_drv f2 2 = v2 := by rw [e2]; exact T_drv_c r2 (fun c a _ => (n2 2 c (by omega) a).trans (n1 2 c (by omega) a))
  obtain ⟨f3, E3⟩ : ∃ z, z = upd f2 (256 * 2 + 26) v2 := ⟨_, rfl⟩
  have n3 : ∀ j c, j ≠ 2 → c < 256 → f3 (256 * j + c) = f2 (256 * j + c) := fun j c a b => by rw [E3]; exact blk_ne (by omega) b
  have g3 : ∀ c, 1024 ≤ c → f3 c = f c := fun c a => by rw [E3, pk_un (by omega)]; exact g2 c a
  have t33 : T_drv f3 3 = v3 := by rw [e3]; exact T_drv_c r3 (fun c a _ => (n3 3 c (by omega) a).trans ((n2 3 c (by omega) a).trans (n1 3 c (by omega) a)))
  obtain ⟨f4, E4⟩ : ∃ z, z = upd f3 (256 * 3 + 26) v3 := ⟨_, rfl⟩
  have n4 : ∀ j c, j ≠ 3 → c < 256 → f4 (256 * j + c) = f3 (256 * j + c) := fun j c a b => by rw [E4]; exact blk_ne (by omega) b
  have g4 : ∀ c, 1024 ≤ c → f4 c = f c := fun c a => by rw [E4, pk_un (by omega)]; exact g3 c a
  have s0 := sim_dr r0
  rw [← e0, ← E1] at s0
  have a1 : relN f1 1 q x1 := r1.fr (fun c a => n1 1 c (by omega) a)
  have s1 := sim_dr a1
  rw [t11, ← E2] at s1
  have a2 : relN f2 2 q x2 := (r2.fr (F := f1) (fun c a => n1 2 c (by omega) a)).fr (fun c a => n2 2 c (by omega) a)
  have s2 := sim_dr a2
  rw [t22, ← E3] at s2
  have a3 : relN f3 3 q x3 := ((r3.fr (F := f1) (fun c a => n1 3 c (by omega) a)).fr (F := f2) (fun c a => n2 3 c (by omega) a)).fr (fun c a => n3 3 c (by omega) a)
  have s3 := sim_dr a3
  rw [t33, ← E4] at s3
  have w0 : ∀ c, c < 256 → f4 (256 * 0 + c) = f1 (256 * 0 + c) := fun c a => (n4 0 c (by omega) a).trans ((n3 0 c (by omega) a).trans (n2 0 c (by omega) a))
  have w1 : ∀ c, c < 256 → f4 (256 * 1 + c) = f2 (256 * 1 + c) := fun c a => (n4 1 c (by omega) a).trans (n3 1 c (by omega) a)
  have w2 : ∀ c, c < 256 → f4 (256 * 2 + c) = f3 (256 * 2 + c) := fun c a => n4 2 c (by omega) a
  have d0 := s0.2.fr s0.1 w0
  have d1 := s1.2.fr s1.1 w1
  have d2 := s2.2.fr s2.1 w2
  have d3 := s3.2
  have b0 := s0.1.fr w0
  have b1 := s1.1.fr w1
  have b2 := s2.1.fr w2
  have b3 := s3.1
  have hlev : bLev v0 v1 v2 v3 = 0 ∨ bLev v0 v1 v2 v3 = 1 := and01 (and01 (and01 (and01 (Or.inr rfl) z0) z1) z2) z3
  obtain ⟨set, es⟩ : ∃ z, z = cSet (nI tn) D 0 := ⟨_, rfl⟩
  have hset : ivT f4 D.length = set := by
    rw [es]
    exact ivT_c D (fun i e he => by
      have hi : i < D.length := (List.getElem?_eq_some_iff.mp he).1
      obtain ⟨c1, c2, -⟩ := hD.2.2 i e he
      rw [g4 _ (by omega), g4 _ (by omega)]
      exact ⟨c1, c2⟩) ((g4 1024 (by omega)).trans ht)
  rw [← es]
  have hsm : ∀ k, bSm v0 v1 v2 v3 set k = 0 ∨ bSm v0 v1 v2 v3 set k = 1 := fun k => xor01 hlev (one01 _)
  obtain ⟨f5, E5⟩ : ∃ z, z = T_acts f4 0 (bSm v0 v1 v2 v3 set 0) := ⟨_, rfl⟩
  have A0 := sim_act1 (ca := ca0) (y := y0) (by omega) hq b0 d0 (hsm 0) ((g4 1025 (by omega)).trans hpl) ((g4 1026 (by omega)).trans hol) ((g4 1027 (by omega)).trans hrv) pn p8 p128 hy0 hc0
  rw [← E5] at A0
  have q1 : ∀ c, c < 256 → f5 (256 * 1 + c) = f4 (256 * 1 + c) := fun c a => A0.2 _ (by omega)
  obtain ⟨f6, E6⟩ : ∃ z, z = T_acts f5 1 (bSm v0 v1 v2 v3 set 1) := ⟨_, rfl⟩
  have A1 := sim_act1 (ca := ca1) (y := y1) (by omega) hq (b1.fr q1) (d1.fr b1 q1) (hsm 1) ((A0.2 1025 (by omega)).trans ((g4 1025 (by omega)).trans hpl)) ((A0.2 1026 (by omega)).trans ((g4 1026 (by omega)).trans hol)) ((A0.2 1027 (by omega)).trans ((g4 1027 (by omega)).trans hrv)) pn p8 p128 hy1 hc1
  rw [← E6] at A1
  have q2 : ∀ c, c < 256 → f6 (256 * 2 + c) = f4 (256 * 2 + c) := fun c a => (A1.2 _ (by omega)).trans (A0.2 _ (by omega))
  have G6 : ∀ c, 1024 ≤ c → f6 c = f c := fun c a => (A1.2 c (by omega)).trans ((A0.2 c (by omega)).trans (g4 c a))
  obtain ⟨f7, E7⟩ : ∃ z, z = T_acts f6 2 (bSm v0 v1 v2 v3 set 2) := ⟨_, rfl⟩
  have A2 := sim_act1 (ca := ca2) (y := y2) (by omega) hq (b2.fr q2) (d2.fr b2 q2) (hsm 2) ((G6 1025 (by omega)).trans hpl) ((G6 1026 (by omega)).trans hol) ((G6 1027 (by omega)).trans hrv) pn p8 p128 hy2 hc2
  rw [← E7] at A2
  have q3 : ∀ c, c < 256 → f7 (256 * 3 + c) = f4 (256 * 3 + c) := fun c a => (A2.2 _ (by omega)).trans ((A1.2 _ (by omega)).trans (A0.2 _ (by omega)))
  have G7 : ∀ c, 1024 ≤ c → f7 c = f c := fun c a => (A2.2 c (by omega)).trans (G6 c a)
  obtain ⟨f8, E8⟩ : ∃ z, z = T_acts f7 3 (bSm v0 v1 v2 v3 set 3) := ⟨_, rfl⟩
  have A3 := sim_act1 (ca := ca3) (y := y3) (by omega) hq (b3.fr q3) (d3.fr b3 q3) (hsm 3) ((G7 1025 (by omega)).trans hpl) ((G7 1026 (by omega)).trans hol) ((G7 1027 (by omega)).trans hrv) pn p8 p128 hy3 hc3
  rw [← E8] at A3
  have G8 : ∀ c, 1024 ≤ c → f8 c = f c := fun c a => (A3.2 c (by omega)).trans (G7 c a)
  -- the end of the bit time
  obtain ⟨f9, E9⟩ : ∃ z, z = upd f8 (tn % 256 + 1050) (bLev v0 v1 v2 v3) := ⟨_, rfl⟩
  obtain ⟨f10, E10⟩ : ∃ z, z = upd f9 1024 (f9 1024 + 1) := ⟨_, rfl⟩
  have hmod : tn % 256 < 256 := Nat.mod_lt _ (by omega)
  have t10 : f10 1024 = nI (tn + 1) := by
    rw [E10, pk_us, E9, pk_un (by omega), G8 1024 (by omega), ht]
    exact nI_1 tn
  have o10 : ∀ c, c ≠ 1024 → c ≠ tn % 256 + 1050 → f10 c = f8 c := fun c a b => by rw [E10, pk_un a, E9, pk_un b]
  have hD10 : rD f10 D tn := hD.fr (fun c a b => (o10 c (by omega) (by omega)).trans (G8 c (by omega)))
  obtain ⟨P1, P2⟩ := sim_pass hD10 t10 (by omega)
  have eN : (f 1028).toNatClampNeg = D.length := by rw [hD.2.1]; exact nI_clamp (by have := hD.1; omega)
  have eM : (f 1024).toNatClampNeg = tn := by rw [ht]; exact nI_clamp (by omega)
  have r26a : f1 26 = v0 := by rw [E1]; exact pk_us
  have r26b : f2 282 = v1 := by rw [E2]; exact pk_us
  have r26c : f3 538 = v2 := by rw [E3]; exact pk_us
  have r26d : f4 794 = v3 := by rw [E4]; exact pk_us
  have eB : T_bit f = T_pass f10 D.length := by
    unfold T_bit T_bitV
    rw [eN, eM]
    have x1 : upd f 26 (T_drv f 0) = f1 := by rw [E1, ← e0]
    have x2 : upd f1 282 (T_drv f1 1) = f2 := by rw [E2, t11]
    have x3 : upd f2 538 (T_drv f2 2) = f3 := by rw [E3, t22]
    have x4 : upd f3 794 (T_drv f3 3) = f4 := by rw [E4, t33]
    simp only [x1, x2, x3, x4, r26a, r26b, r26c, r26d, hset]
    rw [E10, E9, E8, E7, E6, E5]
    rfl
  rw [eB]
  have hb : ∀ c, c < 1024 → T_pass f10 D.length c = f8 c := fun c a => (P2 c (by omega)).trans (o10 c (by omega) (by omega))
  have hg : ∀ c, 1025 ≤ c → c < 1028 → T_pass f10 D.length c = f c := fun c a b => (P2 c (by omega)).trans ((o10 c (by omega) (by omega)).trans (G8 c (by omega)))
  refine ⟨⟨?_, ?_, ?_, ?_⟩, ⟨(P2 1024 (by omega)).trans t10, by omega⟩, ⟨(hg 1025 (by omega) (by omega)).trans hpl, (hg 1026 (by omega) (by omega)).trans hol, (hg 1027 (by omega) (by omega)).trans hrv⟩, ⟨p, p8, p128, pn⟩, P1, fun i hi => ?_⟩
  · exact A0.1.fr (fun c a => (hb _ (by omega)).trans ((A3.2 _ (by omega)).trans ((A2.2 _ (by omega)).trans (A1.2 _ (by omega)))))
  · exact A1.1.fr (fun c a => (hb _ (by omega)).trans ((A3.2 _ (by omega)).trans (A2.2 _ (by omega))))
  · exact A2.1.fr (fun c a => (hb _ (by omega)).trans (A3.2 _ (by omega)))
  · exact A3.1.fr (fun c a => hb _ (by omega))
  · rw [nar01 hlev, P2 _ (by omega)]
    by_cases z : i = tn % 256
    · rw [z, pk_us, E10, pk_un (by omega), E9, pk_us]
      exact ⟨rfl, hlev⟩
    · rw [pk_un z, o10 _ (by omega) (by omega), G8 _ (by omega)]
      exact hh i hi
theorem relB.ok {f : Nat → Int32} {q : Nat} {x0 x1 x2 x3 : NS} {D : List dsE} {hs : Nat → Int32} {tn : Nat} {pl ol rv : Int32} (h : relB f q x0 x1 x2 x3 D hs tn pl ol rv) (hq : q < 1000000) : okAll f := by
  obtain ⟨⟨r0, r1, r2, r3⟩, ⟨ht, htq⟩, -, -, hD, -⟩ := h
  refine ⟨fun k hk => ?_, ?_, ?_⟩
  · rcases (show k = 0 ∨ k = 1 ∨ k = 2 ∨ k = 3 by omega) with rfl | rfl | rfl | rfl
    · exact r0.ok
    · exact r1.ok
    · exact r2.ok
    · exact r3.ok
  · rw [hD.2.1, nI_clamp (by have := hD.1; omega)]
    exact ⟨rfl, hD.1⟩
  · rw [ht, nI_clamp (by omega)]
    exact ⟨rfl, by omega⟩
