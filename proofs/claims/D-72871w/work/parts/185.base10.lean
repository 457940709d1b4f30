/-! methods that throw a Fault: contracts, rows; methods with a table of handlers -/
set_option maxRecDepth 100000
/-- the end of a method that throws: the Fault's address, the world, how many cells are new -/
def gX (G : gG) (post : Nat → gM → Nat → Prop) : Addr → String → State → State → Prop := fun q E st t => E = "ArbitratedBus$Fault" ∧ (∃ (M' : gM) (k : Nat), post q M' k ∧ gW G M' t.heap ∧ t.heap.size = st.heap.size + k) ∧ va_F (gA G) st t
def gNo : Array Value → State → Outcome → State → Prop := fun _ _ _ _ => False
abbrev MetX (l : Launch) (y : MethodName) (ws : List Cond) (rm : Room) (Pc : Array Value → State → Prop) (G : gG) (post : Nat → gM → Nat → Prop) (mc ms : Nat) : Prop := vz_Met l y ws rm Pc gNo (gX G post) mc ms (gA G)
theorem gMetX {l : Launch} {y : MethodName} {cc : ByteArray} {maxL : Nat} {ret : Option FieldType} {rm : Room} {G : gG} {av : List Value} {M : gM} {post : Nat → gM → Nat → Prop} {mc ms : Nat} (lv : List (Nat × Value)) (hy : plainName y.cls = true) (hn : (lg_sl av).length ≤ maxL) (hlv : lv_args 0 av = lv)
    (body : ∀ p e s m below meth c, gC p s m av.toArray meth c G maxL cc y.cls y.name ret → (∀ x ∈ c.exceptionTable.toList, False) → gJ p l e rm s m av.toArray below meth c G maxL (vz_MQ below gNo (gX G post) av.toArray s mc ms (gA G)) 0 0 M 0 lv []) :
    MetX l y (ws_ y cc maxL ret) rm (gPc G av M) G post mc ms := by
  refine vz_ofW (cc := cc) (maxL := maxL) (ret := ret) hy rfl ?_
  intro p e s m args below meth c s₁ B hml htb hv
  obtain ⟨rfl, hW, hK⟩ := hv
  have hts := atoms_spec (ws := ws_ y cc maxL ret) B.pre
  have hts : ∀ w ∈ lw_all, w.before _ s = true := fun w h => hts w (List.mem_cons_of_mem _ h)
  have hown : s.vm.findClass y.cls = some m.cls := findClass_of_methodNamed B.named
  have hnm : meth.name = y.name := (name_of_methodNamed B.named B.method).1
  have hl := lv_entry av (n := maxL) hn
  rw [lg_entry_eq]
  subst hlv
  exact body p e s m below meth c ⟨⟨B.exec, B.bytes, hml, hown, hts⟩, B.notSynchronized, B.returns, hK, hnm⟩ htb s.heap [] _ hW va_S.rf hl
/-- a contract of a method with handlers out of the walk of its body -/
theorem gMetH {l : Launch} {y : MethodName} {cc : ByteArray} {maxL : Nat} {ret : Option FieldType} {rm : Room} {G : gG} {av : List Value} {M : gM} {Qc : Array Value → State → Outcome → State → Prop} {mc ms : Nat} {hh : List (Nat × Nat × Nat × Nat)} (lv : List (Nat × Value)) (hy : plainName y.cls = true) (hn : (lg_sl av).length ≤ maxL) (hlv : lv_args 0 av = lv)
    (body : ∀ p e s m below meth c, gC p s m av.toArray meth c G maxL cc y.cls y.name ret → c.exceptionTable.toList = tableOf hh → gJ p l e rm s m av.toArray below meth c G maxL (MQ below Qc av.toArray s mc ms (gA G)) 0 0 M 0 lv []) :
    Met l y (wsW_ y cc maxL ret hh) rm (gPc G av M) Qc mc ms (gA G) := by
  refine MetFree.of_bodyS (code := cc) (maxLocals := maxL) (ret := ret) hy ?_ ?_
  · intro args s m h hn
    obtain ⟨m9, meth, c, hn9, h1, h2, h3, h4, -, h5, h6, -⟩ := Cond.codeWith_spec (atoms_spec (ws := wsW_ y cc maxL ret hh) h _ List.mem_cons_self)
    cases hn.symm.trans hn9
    exact ⟨meth, c, h1, h2, h3, h4, h5, h6⟩
  · intro p e s m args below meth c s₁ B hml hP _
    have hh0 : s₁.heap = s.heap := by rw [B.state]; rfl
    obtain ⟨rfl, hW, hK⟩ := hP
    have hts := atoms_spec (ws := wsW_ y cc maxL ret hh) B.pre
    have htb : c.exceptionTable.toList = tableOf hh := by
      obtain ⟨m9, meth9, c9, hn9, h1, h2, -, -, h6, -⟩ := Cond.codeWith_spec (hts _ List.mem_cons_self)
      cases Option.some.inj (hn9.symm.trans B.named)
      cases Option.some.inj (h1.symm.trans B.method)
      cases Option.some.inj (h2.symm.trans (Stand.of_body B).code)
      exact h6
    have hts : ∀ w ∈ lw_all, w.before _ s = true := fun w h => hts w (List.mem_cons_of_mem _ h)
    have hown : s.vm.findClass y.cls = some m.cls := findClass_of_methodNamed B.named
    have hnm : meth.name = y.name := (name_of_methodNamed B.named B.method).1
    have hl := lv_entry av (n := maxL) hn
    subst hlv
    have hb := body p e s m below meth c ⟨⟨B.exec, B.bytes, hml, hown, hts⟩, B.notSynchronized, B.returns, hK, hnm⟩ htb s.heap [] _ hW va_S.rf hl
    rw [← lg_entry_eq] at hb
    obtain ⟨t, a1, o, b1, b2, b3⟩ := hb s₁ hh0 (Stand.of_body B)
    exact ⟨t, o, a1, b1, b2, ⟨b3.1, b3.2⟩⟩
section GX
variable {p : Program} {l : Launch} {e : Env} {R : Room} {s : State} {m : MethodId} {args : Array Value} {below : List Frame} {meth : Method} {c : Code} {G : gG} {nL : Nat} {Q : State → Prop} {cells slots : Nat} {M : gM} {pc : Nat} {lv : List (Nat × Value)} {st : List Value} {cc : ByteArray} {own nm : String} {ret : Option FieldType}
def gRunX (p : Program) (l : Launch) (e : Env) (R : Room) (s : State) (m : MethodId) (args : Array Value) (below : List Frame) (meth : Method) (c : Code) (G : gG) (nL : Nat) (cells slots mc ms : Nat) (M : gM) (pc : Nat) (lv : List (Nat × Value)) (st0 rest : List Value) (a : Array Value) (post : Nat → gM → Nat → Prop) : Prop :=
  ∀ (H : Heap) (locs : List Loc) (ls : Array Slot), gW G M H → va_S (gA G) s.heap H locs → lv_has ls nL lv → vz_Run p l e R s m args below meth c H locs cells slots mc ms (F0 m pc ls st0) rest (gNo a) (gX G post) (gA G)
theorem g_VX (hC : gC p s m args meth c G nL cc own nm ret) {y : MethodName} {bytes : ByteArray} {maxL mc ms n index : Nat} {rt : Option FieldType} {rm : Room} {post : Nat → gM → Nat → Prop} {As rest st0 : List Value} {C : String} {b : Nat} (hm : gMv y C bytes maxL rt n) (hlink : Cond.methodLink own index y ∈ lw_all) (hb : gOf G s M C b) (hM : MetX l y (ws_ y bytes maxL rt) rm (gPc G (.ref b :: As) M) G post mc ms) (hrm : rm.cells = mc ∧ rm.slots = ms) (hR : rm.frames + 1 ≤ R.frames ∧ 8 + (maxL + 11) + rm.locals ≤ R.locals) (hst : st0 = As.reverse ++ .ref b :: rest) (hw : (rest.map fun v => v.category).sum ≤ 8) (hd : decode cc pc = .ok (.invokevirtual index, 3)) (hn : As.length = n) (hf : cells + mc ≤ R.cells ∧ slots + ms ≤ R.slots) : gRunX p l e R s m args below meth c G nL cells slots mc ms M pc lv st0 rest (Value.ref b :: As).toArray post := by
  subst hst
  intro H locs ls hW hS hl
  exact vz_runV (As := As) (rest := rest) hC.1 hM (cwV n hC.ts (lw_V hlink hm.1 hm.2.1 hm.2.2.1 hm.2.2.2.1) rfl hrm.1 hrm.2 hm.2.2.2.2 hR) ⟨gPc.blind, hb H locs hW hS, fun U hU hWm => ⟨rfl, by rw [hU]; exact hW, hC.K.to hS hU hWm⟩⟩ rfl hn hl.1 rfl (lv_room hw) hd hf
/-- a call that throws, not caught here -/
theorem g_callX (hC : gC p s m args meth c G nL cc own nm ret) (htb : ∀ x ∈ c.exceptionTable.toList, False) {mc ms mo so : Nat} {rest st0 : List Value} {a : Array Value} {post postO : Nat → gM → Nat → Prop} (hr : gRunX p l e R s m args below meth c G nL cells slots mc ms M pc lv st0 rest a post) (hc1 : cells + mc ≤ mo) (hs1 : slots + ms ≤ so) (kk : ∀ (q : Nat) (M' : gM) (k k9 : Nat), post q M' k → k9 ≤ cells + mc → postO q M' k9) : gJ p l e R s m args below meth c G nL (vz_MQ below gNo (gX G postO) args s mo so (gA G)) cells slots M pc lv st0 := by
  intro H locs ls hW hS hl T hT X
  rcases hr H locs ls hW hS hl T hT X with ⟨v, st₀, t, T', L, h0, X', hL, e1, e2, hno, stp⟩ | ⟨q, st₀, t, T', L, E, ce, h0, X', hL, e1, e2, ⟨hE, ⟨M', k, hp, hW1, hsz⟩, hz, hk⟩, hce, hcv, hcl, stp⟩
  · exact hno.elim
  · subst hE
    rw [h0] at hz hk
    have hS' : va_S (gA G) s.heap T'.heap (locs ++ L) := ⟨Nat.le_trans hS.1 (by rw [e1]; exact hz), fun q h1 h2 => by rw [e1, hk q (Nat.lt_of_lt_of_le h1 hS.1) h2]; exact hS.2.1 q h1 h2, fun q hq => by
      rcases List.mem_append.mp hq with h | h
      · exact hS.2.2 q h
      · exact hL q h⟩
    have hz9 := X'.heapSize
    have hs9 := hS'.1
    obtain ⟨t2, a1, b1⟩ := vz_out (Qc := gNo) (XC := gX G postO) (mc := mo) (ms := so) (ls := ls) (rest := rest) (pc := pc) (fun x hx => (htb x hx).elim) hC.lk (by rw [e1]; exact hce) hcv hcl
      (fun t' ht' _ => ⟨rfl, ⟨M', T'.heap.size - s.heap.size, kk q M' k _ hp (by omega), by rw [ht', e1]; exact hW1, by rw [ht']; omega⟩, hS'.F ht'⟩) hS'.2.2 hc1 hs1 T' rfl X'
    exact ⟨t2, stp.trans a1, b1⟩
/-- 'throw' of a Fault, not caught here -/
theorem g_athrow (hC : gC p s m args meth c G nL cc own nm ret) (htb : ∀ x ∈ c.exceptionTable.toList, False) {mo so : Nat} {rest : List Value} {postO : Nat → gM → Nat → Prop} {q : Nat} {t9 : Nat × Nat} {fs : List Value} (hq : M q = some (t9, .inr (15, fs))) (hp : ∀ k, k ≤ cells → postO q M k) (hd : decode cc pc = .ok (.athrow, 1)) (h1 : cells ≤ mo) (h2 : slots ≤ so) : gJ p l e R s m args below meth c G nL (vz_MQ below gNo (gX G postO) args s mo so (gA G)) cells slots M pc lv (.ref q :: rest) := by
  intro H locs ls hW hS hl
  refine vz_athrow hC.hx hC.hb hd ?_
  obtain ⟨q', z1, cell, g1, g2, g3, -⟩ := hW.one hq 0 _ rfl
  have hcl : s.vm.findClass "ArbitratedBus$Fault" = some cell.cls := by
    obtain ⟨c9, k1, k2, k3⟩ := gIs.of hC.K hW hq (cI15 (G := G)).1
    rw [show c9 = cell from Option.some.inj (k1.symm.trans g1)] at k3
    exact k3
  intro T hT X
  have hz9 := X.heapSize
  rw [hT] at hz9
  have hs9 := hS.1
  exact vz_out (Qc := gNo) (XC := gX G postO) (mc := mo) (ms := so) (ls := ls) (rest := rest) (pc := pc) (fun x hx => (htb x hx).elim) hC.lk g1 g3 hcl
    (fun t' ht' _ => ⟨rfl, ⟨M, H.size - s.heap.size, hp _ (by omega), by rw [ht']; exact hW, by rw [ht']; omega⟩, hS.F ht'⟩) hS.2.2 h1 h2 T hT X
/-- a call that throws, caught by the only row of this method's table -/
theorem g_callC (hC : gC p s m args meth c G nL cc own nm ret) {mc ms : Nat} {rest st0 : List Value} {a : Array Value} {post : Nat → gM → Nat → Prop} (hr : gRunX p l e R s m args below meth c G nL cells slots mc ms M pc lv st0 rest a post) {x : ExceptionTableEntry} (htb : c.exceptionTable.toList = [x]) (hx : covers x pc = true) (h0 : x.catchType ≠ 0) (hlink : Cond.classLink own x.catchType "ArbitratedBus$Fault" ∈ lw_all) (hcast : Cond.castable "ArbitratedBus$Fault" "ArbitratedBus$Fault" ∈ lw_all) (c1 : Nat) (hc1 : cells + mc ≤ c1) (s1 : Nat) (hs1 : slots + ms ≤ s1) (h9 : Nat) (hh9 : x.handlerPc = h9) (kk : ∀ (q : Nat) (M' : gM) (k : Nat), post q M' k → gJ p l e R s m args below meth c G nL Q c1 s1 M' h9 lv [.ref q]) : gJ p l e R s m args below meth c G nL Q cells slots M pc lv st0 := by
  subst hh9
  intro H locs ls hW hS hl T hT X
  rcases hr H locs ls hW hS hl T hT X with ⟨v, st₀, t, T', L, g0, X', hL, e1, e2, hno, stp⟩ | ⟨q, st₀, t, T', L, E, ce, g0, X', hL, e1, e2, ⟨hE, ⟨M', k, hp, hW1, hsz⟩, hz, hk⟩, hce, hcv, hcl, stp⟩
  · exact hno.elim
  · subst hE
    rw [g0] at hz hk
    have hS' : va_S (gA G) s.heap T'.heap (locs ++ L) := ⟨Nat.le_trans hS.1 (by rw [e1]; exact hz), fun q h1 h2 => by rw [e1, hk q (Nat.lt_of_lt_of_le h1 hS.1) h2]; exact hS.2.1 q h1 h2, fun q hq => by
      rcases List.mem_append.mp hq with h | h
      · exact hS.2.2 q h
      · exact hL q h⟩
    obtain ⟨t2, a1, b1⟩ := vz_catch (Q := Q) (pc := pc) (ls := ls) (rest := rest) hC.1.2.2.2.1 [] x [] htb (fun z hz => nomatch hz) hx h0 (hC.ts _ hlink) (hC.ts _ hcast) (by rw [e1]; exact hce) hcv hcl
      (kk q M' k hp T'.heap (locs ++ L) ls (by rw [e1]; exact hW1) hS' hl) T' rfl (stand_widen X' hc1 hs1)
    exact ⟨t2, stp.trans a1, b1⟩
/-- a call of a method with handlers -/
theorem g_VW (hC : gC p s m args meth c G nL cc own nm ret) {y : MethodName} {bytes : ByteArray} {maxL mc ms n index : Nat} {rt : Option FieldType} {rm : Room} {Qc : Array Value → State → Outcome → State → Prop} {As rest st0 : List Value} {C : String} {b : Nat} {hh : List (Nat × Nat × Nat × Nat)} (hi : Cond.instanceMethod y ∈ lw_all) (hse : Cond.selects C y y ∈ lw_all) (hin : Cond.initialized C ∈ lw_all) (hcd : Cond.codeWith y bytes maxL rt hh ∈ lw_all) (hpl : y.cls = C ∧ y.cls ≠ "java/lang/invoke/MethodHandle" ∧ y.cls ≠ "java/lang/invoke/VarHandle" ∧ (parseMethodDescriptor y.desc).map (fun d => d.parameters.length) = some n) (hlink : Cond.methodLink own index y ∈ lw_all) (hb : gOf G s M C b) (hM : Met l y (wsW_ y bytes maxL rt hh) rm (gPc G (.ref b :: As) M) Qc mc ms (gA G)) (hrm : rm.cells = mc ∧ rm.slots = ms) (hR : rm.frames + 1 ≤ R.frames ∧ 8 + (maxL + 11) + rm.locals ≤ R.locals) (hst : st0 = As.reverse ++ .ref b :: rest) (hw : (rest.map fun v => v.category).sum ≤ 8) (hd : decode cc pc = .ok (.invokevirtual index, 3)) (hn : As.length = n) (hf : cells + mc ≤ R.cells ∧ slots + ms ≤ R.slots) : gRun p l e R s m args below meth c G nL cells slots mc ms M pc lv st0 rest (Qc (Value.ref b :: As).toArray) := by
  subst hst
  intro H locs ls hW hS hl
  exact vz_runVW (As := As) (rest := rest) hC.1 hM (vz_cwVW n hC.ts (lw_VW hlink hi hse hin hcd) rfl hrm.1 hrm.2 hpl hR) ⟨gPc.blind, hb H locs hW hS, fun U hU hWm => ⟨rfl, by rw [hU]; exact hW, hC.K.to hS hU hWm⟩⟩ rfl hn hl.1 rfl (lv_room hw) hd hf
/-- a static that is null or some object -/
theorem g_getsq (hC : gC p s m args meth c G nL cc own nm ret) {X n d : String} (hZ : va_Zq X n d (gA G) s s.heap) {index : Nat} (hlink : Cond.fieldLink own index X n d ∈ lw_all) (hd : decode cc pc = .ok (.getstatic index, 3)) (q : Nat) (hq : pc + 3 = q) (k : ∀ r : Option Nat, gJ p l e R s m args below meth c G nL Q cells slots M q lv (va_rf r :: st)) : gJ p l e R s m args below meth c G nL Q cells slots M pc lv st := by
  rcases hZ with h | ⟨t, h⟩
  · exact g_gets hC h hlink hd q hq (k none)
  · exact g_gets hC h hlink hd q hq (k (some t))
end GX
