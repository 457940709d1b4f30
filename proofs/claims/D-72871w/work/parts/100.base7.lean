/-! MORE ROWS: weaker ends, void calls without change, fields of constants, arraycopy, frames by tags -/
set_option maxRecDepth 100000
theorem gMono_i {l : Launch} {y : MethodName} {ws : List Cond} {rm : Room} {Pc : Array Value → State → Prop} {G : gG} {mc ms : Nat} {free : Addr → Prop} {post post' : Int32 → gM → Nat → Prop} (h : Met l y ws rm Pc (gQi G post) mc ms free) (hq : ∀ r M k, post r M k → post' r M k) : Met l y ws rm Pc (gQi G post') mc ms free := by
  intro p e ha hc hcl s m args below hf hS hP hK
  obtain ⟨n, o, h1, h2, h3, ⟨⟨r, M', k, e1, hp, w, sz⟩, f⟩, hL⟩ := h p e ha hc hcl s m args below hf hS hP hK
  exact ⟨n, o, h1, h2, h3, ⟨⟨r, M', k, e1, hq _ _ _ hp, w, sz⟩, f⟩, hL⟩
theorem gMono_l {l : Launch} {y : MethodName} {ws : List Cond} {rm : Room} {Pc : Array Value → State → Prop} {G : gG} {mc ms : Nat} {free : Addr → Prop} {post post' : Int64 → gM → Nat → Prop} (h : Met l y ws rm Pc (gQl G post) mc ms free) (hq : ∀ r M k, post r M k → post' r M k) : Met l y ws rm Pc (gQl G post') mc ms free := by
  intro p e ha hc hcl s m args below hf hS hP hK
  obtain ⟨n, o, h1, h2, h3, ⟨⟨r, M', k, e1, hp, w, sz⟩, f⟩, hL⟩ := h p e ha hc hcl s m args below hf hS hP hK
  exact ⟨n, o, h1, h2, h3, ⟨⟨r, M', k, e1, hq _ _ _ hp, w, sz⟩, f⟩, hL⟩
theorem gMono_q {l : Launch} {y : MethodName} {ws : List Cond} {rm : Room} {Pc : Array Value → State → Prop} {G : gG} {mc ms : Nat} {free : Addr → Prop} {post post' : Option Nat → gM → Nat → Prop} (h : Met l y ws rm Pc (gQq G post) mc ms free) (hq : ∀ r M k, post r M k → post' r M k) : Met l y ws rm Pc (gQq G post') mc ms free := by
  intro p e ha hc hcl s m args below hf hS hP hK
  obtain ⟨n, o, h1, h2, h3, ⟨⟨r, M', k, e1, hp, w, sz⟩, f⟩, hL⟩ := h p e ha hc hcl s m args below hf hS hP hK
  exact ⟨n, o, h1, h2, h3, ⟨⟨r, M', k, e1, hq _ _ _ hp, w, sz⟩, f⟩, hL⟩
theorem gMono_v {l : Launch} {y : MethodName} {ws : List Cond} {rm : Room} {Pc : Array Value → State → Prop} {G : gG} {mc ms : Nat} {free : Addr → Prop} {post post' : gM → Nat → Prop} (h : Met l y ws rm Pc (gQv G post) mc ms free) (hq : ∀ M k, post M k → post' M k) : Met l y ws rm Pc (gQv G post') mc ms free := by
  intro p e ha hc hcl s m args below hf hS hP hK
  obtain ⟨n, o, h1, h2, h3, ⟨⟨M', k, e1, hp, w, sz⟩, f⟩, hL⟩ := h p e ha hc hcl s m args below hf hS hP hK
  exact ⟨n, o, h1, h2, h3, ⟨⟨M', k, e1, hq _ _ hp, w, sz⟩, f⟩, hL⟩
theorem gW.seti {G : gG} {M : gM} {L : va_W} (h3 : ∀ (a : Nat) (t : Nat × Nat) (e : va_E), M a = some (t, e) → ∃ k : Nat, L[k]? = some (a, e)) {a k : Nat} {e : va_E} (hk : L[k]? = some (a, e)) {t : Nat × Nat} {e' : va_E} {H1 : Heap} (g1 : va_P (gD G) gCl (L.set k (a, e')) H1) (g2 : va_D (gA G) (L.set k (a, e'))) : gW G (gset M a (t, e')) H1 := by
  have hl := (List.getElem?_eq_some_iff.mp hk).1
  refine ⟨_, g1, g2, fun b t' e'' hb => ?_⟩
  by_cases hba : b = a
  · subst hba
    rw [gset_s] at hb
    cases hb
    exact ⟨k, List.getElem?_set_self hl⟩
  · rw [gset_eq hba] at hb
    obtain ⟨j, hj⟩ := h3 b t' e'' hb
    have hjk : j ≠ k := by
      intro q
      subst q
      rw [hk] at hj
      cases hj
      exact hba rfl
    exact ⟨j, by rw [List.getElem?_set_ne (Ne.symm hjk)]; exact hj⟩
/-- frames by tags -/
theorem gFr.up1 {M M' : gM} {a : Nat} {t : Nat × Nat} {e : va_E} {x : (Nat × Nat) × va_E} (hU : gUp M M' a x) (ha : M a = some (t, e)) : gFr (fun _ t' => t' = t) M M' := by
  intro b t' e' hb hn
  refine hU.n ?_ hb
  intro q
  subst q
  rw [hb] at ha
  cases ha
  exact hn rfl
theorem gFr.nw1 {P : Nat → (Nat × Nat) → Prop} {M M' : gM} {a : Nat} {x : (Nat × Nat) × va_E} (hU : gNw M M' a x) : gFr P M M' := fun b t e hb _ => hU.n hb
theorem gFr.no {M M' : gM} (h : gFr (fun _ _ => False) M M') {a : Nat} {t : Nat × Nat} {e : va_E} (ha : M a = some (t, e)) : M' a = some (t, e) := h a t e ha (fun q => q)
/-- a frame by a list of addresses is one by their tags -/
theorem gFr.tg {l : List Nat} {P : Nat → (Nat × Nat) → Prop} {M M' : gM} (h : gFr (gL l) M M') (hs : ∀ b ∈ l, ∀ t e, M b = some (t, e) → P b t) : gFr P M M' := fun b t e hb hn => h b t e hb (fun q => hn (hs b q t e hb))
section GJ7
variable {p : Program} {l : Launch} {e : Env} {R : Room} {s : State} {m : MethodId} {args : Array Value} {below : List Frame} {meth : Method} {c : Code} {G : gG} {nL : Nat} {Q : State → Prop} {cells slots : Nat} {M : gM} {pc : Nat} {lv : List (Nat × Value)} {st : List Value} {cc : ByteArray} {own nm : String} {ret : Option FieldType}
theorem g_callvP {ms : Nat} {rest st0 : List Value} {a : Array Value} (hr : gRun p l e R s m args below meth c G nL cells slots 0 ms M pc lv st0 rest (gQv G (fun M' k => M' = M ∧ k = 0) a)) (q : Nat) (hq : pc + 3 = q) (s1 : Nat) (hs1 : slots + ms ≤ s1) (kk : gJ p l e R s m args below meth c G nL Q cells s1 M q lv rest) : gJ p l e R s m args below meth c G nL Q cells slots M pc lv st0 := by
  refine g_callv hr cells (Nat.le_refl _) s1 hs1 q hq (fun M' k hp => ?_)
  obtain ⟨rfl, rfl⟩ := hp
  exact kk
theorem g_callFvP {ms : Nat} {rest st0 : List Value} {a : Array Value} (hr : gRun5 p l e R s m args below meth c G nL cells slots 0 ms M pc lv st0 rest (gQv G (fun M' k => M' = M ∧ k = 0) a)) (q : Nat) (hq : pc + 5 = q) (s1 : Nat) (hs1 : slots + ms ≤ s1) (kk : gJ p l e R s m args below meth c G nL Q cells s1 M q lv rest) : gJ p l e R s m args below meth c G nL Q cells slots M pc lv st0 := by
  refine g_callFv hr cells (Nat.le_refl _) s1 hs1 q hq (fun M' k hp => ?_)
  obtain ⟨rfl, rfl⟩ := hp
  exact kk
theorem g_ord (hC : gC p s m args meth c G nL cc own nm ret) {i : Nat} (hi : i < 10) {index : Nat} (hlink : Cond.fieldLink own index "java/lang/Enum" "ordinal" "I" ∈ lw_all) (hd : decode cc pc = .ok (.getfield index, 3)) (q : Nat) (hq : pc + 3 = q) (k : gJ p l e R s m args below meth c G nL Q cells slots M q lv (.int (nI i) :: st)) : gJ p l e R s m args below meth c G nL Q cells slots M pc lv (.ref (gph G i) :: st) := by
  subst hq
  exact fun H locs ls hW hS hl => vk_getf hC.hx hC.hb (hC.K.2.1 i hi).2.2 hS hC.ho (hC.ts _ hlink) (fun _ h => h) hd (k H locs ls hW hS hl)
theorem g_ival (hC : gC p s m args meth c G nL cc own nm ret) {a : Nat} {x : Int32} (hb : gBox G M a x) {index : Nat} (hlink : Cond.fieldLink own index "java/lang/Integer" "value" "I" ∈ lw_all) (hd : decode cc pc = .ok (.getfield index, 3)) (q : Nat) (hq : pc + 3 = q) (k : gJ p l e R s m args below meth c G nL Q cells slots M q lv (.int x :: st)) : gJ p l e R s m args below meth c G nL Q cells slots M pc lv (.ref a :: st) := by
  rcases hb with ⟨t, ht, -⟩ | ⟨j, hj, rfl, rfl⟩
  · exact g_get hC cI28 ht 0 (Nat.le_of_ble_eq_true rfl) hlink rfl hd q hq k
  · subst hq
    exact fun H locs ls hW hS hl => vk_getf hC.hx hC.hb (hC.K.2.2.2.1.1.2 j hj) hS hC.ho (hC.ts _ hlink) (fun _ h => h) hd (k H locs ls hW hS hl)
theorem g_cache (hC : gC p s m args meth c G nL cc own nm ret) {i : Int32} {j : Nat} (hj : j < 256) (hi : i = nI j) (hd : decode cc pc = .ok (.aaload, 1)) (q : Nat) (hq : pc + 1 = q) (k : gJ p l e R s m args below meth c G nL Q cells slots M q lv (.ref (gbx G j) :: st)) : gJ p l e R s m args below meth c G nL Q cells slots M pc lv (.int i :: .ref (gca G) :: st) := by
  subst hq
  subst hi
  exact fun H locs ls hW hS hl => vb_tq hC.hx hC.hb hC.K.2.2.2.1.2.2.2.1 hS (vp_in_nI (by omega) (by omega)) (congrArg (fun z => Value.ref (gbx G z)) (nI_clamp (by omega))) hd (k H locs ls hW hS hl)
theorem g_copyi (hC : gC p s m args meth c G nL cc own nm ret) {index : Nat} (hlink : Cond.methodLink own index arraycopyName ∈ lw_all) (hnat : Cond.native arraycopyName ∈ lw_all) (hstat : Cond.static arraycopyName ∈ lw_all) (hini : Cond.initialized "java/lang/System" ∈ lw_all) {a0 a : Nat} {t0 t1 : Nat × Nat} {c0 c1 : ClassId} {n0 n1 : Nat} {f g : Nat → Int32} (ha0 : M a0 = some (t0, .inl (c0, n0, .inl f))) (ha : M a = some (t1, .inl (c1, n1, .inl g))) (j : Nat) {ty : FieldType} (hj0 : (gTy G)[j]? = some (c0, ty)) (hj1 : (gTy G)[j]? = some (c1, ty)) (hprim : refKind ty = false) {N : Nat} (h4 : N ≤ n0) (h5 : N ≤ n1) (hN : N < 2 ^ 31) (hfit : ∀ i, i < N → fits ty (.int (f i)) = true)
    (hfr : 1 ≤ R.frames) (hlo : (st.map fun v => v.category).sum + (nativeFrameWords "java/lang/System" "arraycopy" 5 + 11) ≤ R.locals) (hd : decode cc pc = .ok (.invokestatic index, 3)) (q : Nat) (hq : pc + 3 = q) (k : ∀ M', gUp M M' a (t1, .inl (c1, n1, .inl (va_cpy f g 0 0 N))) → gJ p l e R s m args below meth c G nL Q cells slots M' q lv st) : gJ p l e R s m args below meth c G nL Q cells slots M pc lv (.int (nI N) :: .int 0 :: .ref a :: .int 0 :: .ref a0 :: st) := by
  subst hq
  intro H locs ls hW hS hl
  obtain ⟨L, h1, h2, h3⟩ := hW
  obtain ⟨k0, e0⟩ := h3 a0 t0 _ ha0
  obtain ⟨k1, e1⟩ := h3 a t1 _ ha
  have hcl : (nI N).toNatClampNeg = N := nI_clamp hN
  refine va_copyi hC.hx hC.hb (by rw [hC.hml]; exact hl.1.symm) hC.ho (hC.ts _ hlink) (hC.ts _ hnat) (hC.ts _ hstat) (hC.ts _ hini) hC.K.1 h1 h2 hS k0 k1 j j e0 e1 hj0 hj1 hprim (by decide) (by decide) (nI_pos hN) (by rw [hcl]; show 0 + N ≤ n0; omega) (by rw [hcl]; show 0 + N ≤ n1; omega) (by rw [hcl]; intro i hi; rw [show (Int32.toNatClampNeg 0) + i = i from Nat.zero_add i]; exact hfit i hi) hfr hlo hd (fun H1 locs1 z1 z2 z3 => ?_)
  rw [hcl] at z1 z2
  exact k _ gUp.set H1 locs1 ls (gW.seti h3 e1 z1 z2) z3 hl
end GJ7
abbrev gT (P : Nat × Nat → Prop) : Nat → (Nat × Nat) → Prop := fun _ t => P t
def tgE (g r : Nat) (t : Nat × Nat) : Prop := t.1 = g ∧ t.2 = r
def tgR (g a b : Nat) (t : Nat × Nat) : Prop := t.1 = g ∧ a ≤ t.2 ∧ t.2 < b
def ndT (g k : Nat) (t : Nat × Nat) : Prop := t.1 = g ∧ t.2 / 16 = k
def tg0 (t : Nat × Nat) : Prop := t.1 = 0
def ndT9 (g k : Nat) (t : Nat × Nat) : Prop := (t.1 = g ∧ t.2 / 16 = k) ∨ t.1 = 9
def ndW (g k : Nat) (t : Nat × Nat) : Prop := (t.1 = g ∧ (t.2 = 16 * k ∨ t.2 = 16 * k + 2 ∨ t.2 = 16 * k + 3)) ∨ t.1 = 9
theorem gq_n {C : String} {r : Option Nat} : narrow (.object C) (va_rf r) = va_rf r := by cases r <;> rfl
theorem gq_f {C : String} {r : Option Nat} : fits (.object C) (va_rf r) = true := by cases r <;> rfl
section GJ7B
variable {p : Program} {l : Launch} {e : Env} {R : Room} {s : State} {m : MethodId} {args : Array Value} {below : List Frame} {meth : Method} {c : Code} {G : gG} {nL : Nat} {Q : State → Prop} {cells slots : Nat} {M : gM} {pc : Nat} {lv : List (Nat × Value)} {st : List Value} {cc : ByteArray} {own nm : String} {ret : Option FieldType}
theorem g_castQ (hC : gC p s m args meth c G nL cc own nm ret) {X Y : String} {r : Option Nat} (hv : ∀ a, r = some a → gOf G s M X a) (hc : Cond.castable X Y ∈ lw_tbl) {index : Nat} (hlink : Cond.classLink own index Y ∈ lw_all) (hd : decode cc pc = .ok (.checkcast index, 3)) (q : Nat) (hq : pc + 3 = q) (k : gJ p l e R s m args below meth c G nL Q cells slots M q lv (va_rf r :: st)) : gJ p l e R s m args below meth c G nL Q cells slots M pc lv (va_rf r :: st) := by
  cases r with
  | none => exact g_castN hC hd q hq k
  | some a => exact g_cast hC (hv a rfl) hc hlink hd q hq k
theorem g_castQS (hC : gC p s m args meth c G nL cc own nm ret) {X : String} {r : Option Nat} {cC : ClassId} (hat : ClassAt s X cC) (hv : ∀ a, r = some a → gOf G s M X a) {index : Nat} (hlink : Cond.classLink own index X ∈ lw_all) (hd : decode cc pc = .ok (.checkcast index, 3)) (q : Nat) (hq : pc + 3 = q) (k : gJ p l e R s m args below meth c G nL Q cells slots M q lv (va_rf r :: st)) : gJ p l e R s m args below meth c G nL Q cells slots M pc lv (va_rf r :: st) := by
  cases r with
  | none => exact g_castN hC hd q hq k
  | some a => exact g_castS hC hat (hv a rfl) hlink hd q hq k
theorem gph_e (hC : gC p s m args meth c G nL cc own nm ret) {i j : Nat} (hi : i < 10) (hj : j < 10) (h : some (gph G i) = some (gph G j)) : i = j := hC.K.2.2.1 i j hi hj (Option.some.inj h)
theorem gph_n (hC : gC p s m args meth c G nL cc own nm ret) {i j : Nat} (h : ¬ some (gph G i) = some (gph G j)) : ¬ i = j := fun q => h (by rw [q])
theorem g_getU (hC : gC p s m args meth c G nL cc own nm ret) {ci : Nat} {C : String} {T : u_T} {ty : Nat → FieldType} {N : Nat} (hI : gCI ci C T ty N) {a : Nat} {t : Nat × Nat} {fs : List Value} (ha : M a = some (t, .inr (ci, fs))) (j : Nat) (hj : j < N) {index : Nat} {ref : String} (hlink : Cond.fieldLink own index ref (T j).2.1 (T j).2.2.1 ∈ lw_all) (hsame : Cond.sameField ref (T j).1 (T j).2.1 (T j).2.2.1 ∈ lw_all) {v : Value} (hv : fs[j]? = some v) (hd : decode cc pc = .ok (.getfield index, 3)) (q : Nat) (hq : pc + 3 = q)
    (k : gJ p l e R s m args below meth c G nL Q cells slots M q lv (v :: st)) : gJ p l e R s m args below meth c G nL Q cells slots M pc lv (.ref a :: st) := by
  subst hq
  exact fun H locs ls hW hS hl => va_get hC.hx hC.hb hC.ts hI.2.1 hC.ho hC.K.1 (hW.one ha) 0 rfl hI.1 j hj (hC.ts _ hlink) (fun x h => u_same (hC.ts _ hsame) x h) hv hd (k H locs ls hW hS hl)
theorem g_putU (hC : gC p s m args meth c G nL cc own nm ret) {ci : Nat} {C : String} {T : u_T} {ty : Nat → FieldType} {N : Nat} (hI : gCI ci C T ty N) {a : Nat} {t : Nat × Nat} {fs : List Value} (ha : M a = some (t, .inr (ci, fs))) (j : Nat) (hj : j < N) {index : Nat} {ref : String} (hlink : Cond.fieldLink own index ref (T j).2.1 (T j).2.2.1 ∈ lw_all) (hsame : Cond.sameField ref (T j).1 (T j).2.1 (T j).2.2.1 ∈ lw_all) (hfin : (T j).2.2.2 = false) {v : Value} (hn : narrow (ty j) v = v) (hf : fits (ty j) v = true) (hl9 : j < fs.length) (hd : decode cc pc = .ok (.putfield index, 3)) {fs' : List Value} (hfs : fs.set j v = fs') (q : Nat) (hq : pc + 3 = q)
    (k : ∀ M', gUp M M' a (t, .inr (ci, fs')) → gJ p l e R s m args below meth c G nL Q cells slots M' q lv st) : gJ p l e R s m args below meth c G nL Q cells slots M pc lv (v :: .ref a :: st) := by
  subst hq
  subst hfs
  intro H locs ls hW hS hl
  obtain ⟨L, kx, g1, g2, g3, g4⟩ := hW.pick ha
  exact va_put hC.hx hC.hb hC.ts hI.2.1 ty hI.2.2.1 hI.2.2.2 hC.ho hC.K.1 g1 g2 hS kx g3 hI.1 j hj (hC.ts _ hlink) (fun x h => u_same (hC.ts _ hsame) x h) hfin (hI.2.2.1 j hj) hn hf hl9 hd (fun H1 locs1 e1 e2 e3 => k _ gUp.set H1 locs1 ls (g4 _ _ e1 e2) e3 hl)
theorem g_phaseU (hC : gC p s m args meth c G nL cc own nm ret) (i : Nat) (hi : i < 10) {n : String} (hn : gPhN i = n) {index : Nat} {ref : String} (hlink : Cond.fieldLink own index ref n "LArbitratedBus$Phase;" ∈ lw_all) (hsame : Cond.sameField ref "ArbitratedBus$Phase" n "LArbitratedBus$Phase;" ∈ lw_all) (hd : decode cc pc = .ok (.getstatic index, 3)) (q : Nat) (hq : pc + 3 = q) (k : gJ p l e R s m args below meth c G nL Q cells slots M q lv (.ref (gph G i) :: st)) : gJ p l e R s m args below meth c G nL Q cells slots M pc lv st := by
  subst hq
  subst hn
  exact fun H locs ls hW hS hl => va_gets hC.hx hC.hb (hC.K.2.1 i hi).1 hS hC.ho (hC.ts _ hlink) (fun x h => u_same (hC.ts _ hsame) x h) hd (k H locs ls hW hS hl)
theorem g_mmax (hC : gC p s m args meth c G nL cc own nm ret) {index : Nat} (hlink : Cond.methodLink own index Lib.Math.max.name ∈ lw_all) (hstat : Cond.static Lib.Math.max.name ∈ lw_all) (hini : Cond.initialized "java/lang/Math" ∈ lw_all) (hcode : Cond.code Lib.Math.max.name Lib.Math.max.code 2 (some .int) ∈ lw_all) (hfr : 1 ≤ R.frames) (hlo : (st.map fun v => v.category).sum + 13 ≤ R.locals) (hc : cells ≤ R.cells) (hs : slots ≤ R.slots) {x y : Int32} (hd : decode cc pc = .ok (.invokestatic index, 3)) (q : Nat) (hq : pc + 3 = q) (k : gJ p l e R s m args below meth c G nL Q cells slots M q lv (.int (if x < y then y else x) :: st)) : gJ p l e R s m args below meth c G nL Q cells slots M pc lv (.int y :: .int x :: st) := by
  subst hq
  exact fun H locs ls hW hS hl => va_mmax hC.hx hC.hb (by rw [hC.hml]; exact hl.1.symm) hC.ho (hC.ts _ hlink) (hC.ts _ hstat) (hC.ts _ hini) (hC.ts _ hcode) hfr hlo hc hs hd (k H locs ls hW hS hl)
theorem g_mmin (hC : gC p s m args meth c G nL cc own nm ret) {index : Nat} (hlink : Cond.methodLink own index Lib.Math.min.name ∈ lw_all) (hstat : Cond.static Lib.Math.min.name ∈ lw_all) (hini : Cond.initialized "java/lang/Math" ∈ lw_all) (hcode : Cond.code Lib.Math.min.name Lib.Math.min.code 2 (some .int) ∈ lw_all) (hfr : 1 ≤ R.frames) (hlo : (st.map fun v => v.category).sum + 13 ≤ R.locals) (hc : cells ≤ R.cells) (hs : slots ≤ R.slots) {x y : Int32} (hd : decode cc pc = .ok (.invokestatic index, 3)) (q : Nat) (hq : pc + 3 = q) (k : gJ p l e R s m args below meth c G nL Q cells slots M q lv (.int (if y < x then y else x) :: st)) : gJ p l e R s m args below meth c G nL Q cells slots M pc lv (.int y :: .int x :: st) := by
  subst hq
  exact fun H locs ls hW hS hl => va_mmin hC.hx hC.hb (by rw [hC.hml]; exact hl.1.symm) hC.ho (hC.ts _ hlink) (hC.ts _ hstat) (hC.ts _ hini) (hC.ts _ hcode) hfr hlo hc hs hd (k H locs ls hW hS hl)
end GJ7B
