/-! METHODS OF CLASSES WHOSE INITIALIZATION THE STATEMENT DOESN'T NAME (the enum's constants' own classes): a contract by its walk alone -/
set_option maxRecDepth 100000
def MetU (l : Launch) (y : MethodName) (cc : ByteArray) (maxL : Nat) (ret : Option FieldType) (rm : Room) (Pc : Array Value → State → Prop) (Qc : Array Value → State → Outcome → State → Prop) (mc ms : Nat) (free : Addr → Prop) : Prop :=
  ∀ (p : Program) (e : Env) (s : State) (m : MethodId) (args : Array Value) (below : List Frame) (meth : Method) (c : Code),
    Stand p l e rm s m args below meth c (s.setFrames (.java (entryFrame m args maxL) :: below)) [] 0 0 → c.maxLocals = maxL → c.code = cc → meth.locks = false → meth.sig.returnType = ret → s.methodNamed? y = some m → (∀ w ∈ lw_all, w.before args s = true) → Pc args s →
    ∃ t, Steps p.tables e below ((s.setFrames (.java (entryFrame m args maxL) :: below)).setTop (entryFrame m args maxL)) t ∧ MQ below Qc args s mc ms free t
theorem gMetU {l : Launch} {y : MethodName} {cc : ByteArray} {maxL : Nat} {ret : Option FieldType} {rm : Room} {G : gG} {av : List Value} {M : gM} {Qc : Array Value → State → Outcome → State → Prop} {mc ms : Nat} (lv : List (Nat × Value)) (_hy : plainName y.cls = true) (hn : (lg_sl av).length ≤ maxL) (hlv : lv_args 0 av = lv)
    (body : ∀ p e s m below meth c, gC p s m av.toArray meth c G maxL cc y.cls y.name ret → gJ p l e rm s m av.toArray below meth c G maxL (MQ below Qc av.toArray s mc ms (gA G)) 0 0 M 0 lv []) :
    MetU l y cc maxL ret rm (gPc G av M) Qc mc ms (gA G) := by
  intro p e s m args below meth c X hml hb hlk hrt hnm hts hP
  obtain ⟨rfl, hW, hK⟩ := hP
  have hex : p.tables.exec = Jvm.exec := by cases p <;> rfl
  have hown : s.vm.findClass y.cls = some m.cls := findClass_of_methodNamed hnm
  have hname : meth.name = y.name := (name_of_methodNamed hnm X.method).1
  have hl := lv_entry av (n := maxL) hn
  rw [lg_entry_eq]
  rw [lg_entry_eq] at X
  subst hlv
  exact body p e s m below meth c ⟨⟨hex, hb, hml, hown, hts⟩, hlk, hrt, hK, hname⟩ s.heap [] _ hW va_S.rf hl _ rfl X
theorem backU {l : Launch} {R : Room} {p : Program} {e : Env} {below : List Frame} {s : State} {sargs : Array Value} {y : MethodName} {cc : ByteArray} {maxL : Nat} {ret : Option FieldType} {rm : Room} {Pc : Array Value → State → Prop} {Qc : Array Value → State → Outcome → State → Prop} {mc ms : Nat} {free : Addr → Prop} (hy : plainName y.cls = true)
    (hM : MetU l y cc maxL ret rm Pc Qc mc ms free) (hbl : FrameBlind Pc) (hrc : rm.cells = mc) (hrs : rm.slots = ms) (hfr : rm.frames + 1 ≤ R.frames) (hlo : 8 + (maxL + 11) + rm.locals ≤ R.locals)
    (hcd : ∀ a' U, s.WarmedH U.vm → (Cond.code y cc maxL ret).before a' U = true) (hts : ∀ w ∈ lw_all, ∀ a' U, s.WarmedH U.vm → w.before a' U = true) :
    Back l R p e below s sargs y 3 8 (PreOf R mc ms Pc) (PostOf Qc mc ms free) := by
  intro m meth c A g ig mk a X hg hsize hdg hW hn hp
  obtain ⟨hp1, hp2, hp3⟩ := hp
  obtain ⟨U, Ls, c0, s0⟩ := A
  dsimp only [Pt.U, Pt.locs, Pt.cells, Pt.slots] at X hn hp1 hp2 hp3 ⊢
  subst hg
  have h := X.here
  obtain ⟨mY, cY, hmY, hcY, hbY, hlY, hrY, hkY, -⟩ := Cond.code_spec hn (hcd a U X.warmed)
  have hfC : (U.calling g mk a).frames = .invoking mk a :: .java g :: U.frames.tail := State.frames_calling h.top g mk a
  have hcur := State.cur_lt_of_frames hfC
  have hvm : (U.calling g mk a).vm = U.vm := by rw [State.calling_eq h.top]; rfl
  have hnC : (U.calling g mk a).methodNamed? y = some mk := by rw [State.calling_eq h.top]; exact hn
  have hroom : (U.calling g mk a).hasRoom e.platform rm = true := X.room_calling hsize hmY hcY hfr (by rw [hlY]; omega) (by rw [hrc]; exact hp1) (by rw [hrs]; exact hp2)
  have hcode : (U.calling g mk a).code? g.method = some c := by
    have := h.code
    rw [State.code?_eq] at this ⊢
    rw [hvm]; exact this
  have hears : (U.calling g mk a).hears mk (.java g :: U.frames.tail) = true := by
    simp [State.hears, hcode, hdg, Except.toOption]
  obtain ⟨E, hE⟩ : ∃ z, z = (U.calling g mk a).setFrames (.java (entryFrame mk a maxL) :: .java g :: U.frames.tail) := ⟨_, rfl⟩
  have hf1 : E.frames = .java (entryFrame mk a maxL) :: .java g :: U.frames.tail := by rw [hE]; exact State.frames_setFrames _ hcur
  have ht1 := State.topJava?_of_frames hf1
  have hplain : E.plainMethod mk := by
    refine State.plainMethod.of_name ?_
    intro k hk
    obtain ⟨k', hk', hkn⟩ := className_of_methodNamed hn
    have hk2 : U.vm.classes[mk.cls]? = some k := by
      have : E.vm = U.vm := by rw [hE]; exact hvm
      rw [← this]; exact hk
    cases hk2.symm.trans hk'
    rw [hkn]; exact hy
  have hAt : At E mk cY (.java g :: U.frames.tail) := by
    refine ⟨by rw [ht1]; rfl, ⟨[], by rw [hf1]; rfl⟩, ?_, ?_, ?_, ?_, hplain⟩
    · rw [hE, State.calling_eq h.top]; exact h.running
    · rw [hE, State.calling_eq h.top]; simpa using h.runnable
    · rw [hE, State.calling_eq h.top]; simpa using h.alone
    · have : E.vm = U.vm := by rw [hE]; exact hvm
      rw [State.code?_eq, this, hmY]; exact hcY
  obtain ⟨th, hth, -⟩ := State.frames_cons hfC
  have XC : Stand p l e rm (U.calling g mk a) mk a (.java g :: U.frames.tail) mY cY E [] 0 0 := by
    refine ⟨X.admits, X.cas, X.clock, hfC, hroom, hears, by rw [hvm]; exact hmY, hcY, hAt, by rw [hf1]; rfl, by rw [hE]; exact State.WarmedH.refl _, by rw [hE, State.stackLimits_setFrames], by rw [hE, State.stackBytes_setFrames], ?_⟩
    have := (State.sameButNew.refl (U.calling g mk a) hth).setFrames (.java (entryFrame mk a maxL) :: .java g :: U.frames.tail) hcur
    rw [hE]
    exact this
  have hWC : s.WarmedH (U.calling g mk a).vm := by rw [hvm]; exact X.warmed
  obtain ⟨t, hst, o, b1, b2, b3, L, b4, b5⟩ := hM p e (U.calling g mk a) mk a (.java g :: U.frames.tail) mY cY (hE ▸ XC) hlY hbY hkY hrY hnC (fun w hw => hts w hw a _ hWC) (hbl _ _ _ _ hp3)
  rw [← hE] at hst
  obtain ⟨mid, hmid⟩ := h.above
  have hg0 := State.frames_setTop' g h.top
  have hent : (doInvoke e (U.setTop g) [] mk a).1 = E.setTop (entryFrame mk a maxL) := by
    have hfull : e.platform.stackFull (U.setTop g).me (U.setTop g).frames cY.maxLocals = false := by
      obtain ⟨-, h1, -, h2⟩ := State.hasRoom_stack hroom
      rw [hfC, List.length_cons] at h1
      rw [State.localsInUse_invoking hfC (by rw [hvm]; exact hmY) hcY] at h2
      have hw := stackUse_le_stackWeight (.java g :: U.frames.tail)
      rw [hg0]
      have hme : e.platform.stackLimits (U.setTop g).me = e.platform.stackLimits (U.calling g mk a).me := by
        rw [State.calling, State.pushFrame, State.stackLimits_setFrames]
      exact Platform.stackFull_eq_false (by rw [hme]; omega) (by rw [hme]; omega)
    rw [(doInvoke_java (s := U.setTop g) (e := e) (acts := []) (meth := mY) (code := cY) (args := a) hmY hcY hkY hfull).1, State.setTop_self ht1, hE, State.calling]
    simp only [State.pushFrame, State.setFrames_setFrames, hlY, entryFrame, hg0]
  have hsteps : Steps p.tables e below (doInvoke e (U.setTop g) [] mk a).1 t := by
    rw [hent]
    have : (.java g :: U.frames.tail : List Frame) = (.java g :: mid) ++ below := by rw [hmid]; rfl
    rw [this] at hst
    exact hst.weaken
  obtain ⟨⟨v, rfl⟩, hW2, e2, q2, q3, q4, q5, q6⟩ := id b4
  have e3 : t = ({ (U.calling g mk a).setFrames t.frames with heap := t.heap, slotsUsed := t.slotsUsed } : State).setVm t.vm := by
    have : t = ({ t with vm := (U.calling g mk a).vm } : State).setVm t.vm := rfl
    rw [e2] at this
    exact this
  obtain ⟨c2, i2, len2, hc2, hd2, hf2⟩ := b2
  have hW3 : U.WarmedH t.vm := hW2
  have hcc : c2 = c := by
    have h1 : t.code? g.method = U.code? g.method := by rw [State.code?_eq, State.code?_eq, hW3.alike.method?]
    exact Option.some.inj (hc2.symm.trans (h1.trans h.code))
  subst hcc
  have hlen : len2 = 3 := by rw [hdg] at hd2; cases hd2; rfl
  subst hlen
  obtain ⟨g0, hg1⟩ := Option.isSome_iff_exists.mp h.top
  obtain ⟨r, hr⟩ := State.topJava?_eq_some.mp hg1
  have ht2 : t = (({ U with heap := t.heap, slotsUsed := t.slotsUsed } : State).setVm t.vm).setTop { g with pc := g.pc + 3, stack := v.toList ++ g.stack } := by
    have hr' : (({ U with heap := t.heap, slotsUsed := t.slotsUsed } : State).setVm t.vm).frames = .java g0 :: r := hr
    refine e3.trans ?_
    rw [hf2, State.calling_eq h.top, State.setFrames_setFrames, State.setTop_of_frames _ hr', hr]
    rfl
  have hsame : U.sameButNew ({ U with heap := t.heap, slotsUsed := t.slotsUsed } : State) L mc ms := by
    refine ⟨?_, q2, q3, q4, q5, q6⟩
    obtain ⟨th2, hth2, -⟩ := State.frames_cons hr
    show ({ U with heap := t.heap, slotsUsed := t.slotsUsed } : State) = { U.setFrames U.frames with heap := t.heap, slotsUsed := t.slotsUsed }
    rw [State.setFrames_self hth2]
  refine ⟨v, ⟨(({ U with heap := t.heap, slotsUsed := t.slotsUsed } : State).setVm t.vm), Ls ++ L, c0 + mc, s0 + ms⟩, ⟨X.admits, X.cas, X.clock, X.frames, X.room, X.hears, X.method, X.code, (X.here.setHeapUsed t.heap t.slotsUsed).setVm hW3.alike, X.tail, State.WarmedH.trans X.warmed hW3, X.limits, X.bytes, X.same.trans (hsame.setVm s.vm)⟩, ⟨g, mk, t, L, rfl, rfl, b3, rfl, b5, rfl, rfl⟩, ?_⟩
  show Steps p.tables e below _ ((({ U with heap := t.heap, slotsUsed := t.slotsUsed } : State).setVm t.vm).setTop { g with pc := g.pc + 3, stack := v.toList ++ g.stack })
  rw [← ht2]
  exact hsteps
section GU2
variable {p : Program} {l : Launch} {e : Env} {R : Room} {s : State} {m : MethodId} {args : Array Value} {below : List Frame} {meth : Method} {c : Code} {G : gG} {nL : Nat} {Q : State → Prop} {cells slots : Nat} {M : gM} {pc : Nat} {lv : List (Nat × Value)} {st : List Value} {cc : ByteArray} {own nm : String} {ret : Option FieldType}
theorem g_U2 (hC : gC p s m args meth c G nL cc own nm ret) {y : MethodName} {bytes : ByteArray} {maxL mc ms n index : Nat} {rt : Option FieldType} {rm : Room} {Qc : Array Value → State → Outcome → State → Prop} {As rest st0 : List Value} {x : MethodName} {C owner : String} {b : Nat} (hsm : Cond.sameMethod x.cls owner x.name x.desc ∈ lw_all) (hsel : Cond.selects C x y ∈ lw_all) (him : Cond.instanceMethod y ∈ lw_all) (hcd : Cond.code y bytes maxL rt ∈ lw_all) (hdec : va_Decl s ⟨owner, x.name, x.desc⟩) (hpl : plainName y.cls = true ∧ owner ≠ "java/lang/invoke/MethodHandle" ∧ owner ≠ "java/lang/invoke/VarHandle" ∧ (parseMethodDescriptor x.desc).map (fun d => d.parameters.length) = some n)
    (hlink : Cond.methodLink own index x ∈ lw_all) (hb : gOf G s M C b) (hM : MetU l y bytes maxL rt rm (gPc G (.ref b :: As) M) Qc mc ms (gA G)) (hrm : rm.cells = mc ∧ rm.slots = ms) (hR : rm.frames + 1 ≤ R.frames ∧ 8 + (maxL + 11) + rm.locals ≤ R.locals) (hst : st0 = As.reverse ++ .ref b :: rest) (hw : (rest.map fun v => v.category).sum ≤ 8) (hd : decode cc pc = .ok (.invokevirtual index, 3)) (hn : As.length = n) (hf : cells + mc ≤ R.cells ∧ slots + ms ≤ R.slots) : gRun p l e R s m args below meth c G nL cells slots mc ms M pc lv st0 rest (Qc (Value.ref b :: As).toArray) := by
  subst hst
  intro H locs ls hW hS hl
  have hK : Back l R p e below s args y 3 8 (PreOf R mc ms (gPc G (.ref b :: As) M)) (PostOf Qc mc ms (gA G)) := backU hpl.1 hM gPc.blind hrm.1 hrm.2 hR.1 hR.2 (fun a' U hU => pay_in hC.ts (lw_meth hcd) _ (List.mem_cons_self ..) a' U hU) (fun w hw a' U hU => pay_in hC.ts (lw_meth hcd) w (List.mem_cons_of_mem _ hw) a' U hU)
  obtain ⟨cellB, hcB, hoB, hclB⟩ := hb H locs hW hS
  intro T hT X
  have hlen : ∀ sig, parseMethodDescriptor x.desc = some sig → As.length = sig.parameters.length := by
    intro sig h
    have h2 := hpl.2.2.2
    rw [h] at h2
    exact hn.trans (Option.some.inj h2).symm
  obtain ⟨v, vm1, ⟨U', l2, c2, s2⟩, hW1, X', ⟨g', mk, t, L, e1, e2, hq, h1, hL, h2, h3⟩, st9⟩ := va_callVU X hC.hx (C := C) (owner := owner) (bytes := bytes) (maxL := maxL) (ret := rt) hC.ho (hC.ts _ hlink) (hC.ts _ hsm) hdec ⟨hpl.2.1, hpl.2.2.1⟩ (hC.ts _ hsel) (hC.ts _ him) (hC.ts _ hcd) hK (by rw [hT]; exact hcB) hoB hclB (g := F0 m pc ls (As.reverse ++ .ref b :: rest)) rfl (hl.1.trans hC.hml.symm) (argsL := As) (rest := rest) hlen rfl (lv_room hw) (by rw [hC.hb]; exact hd)
    (fun vm1 hW1 => ⟨hf.1, hf.2, ⟨rfl, by show gW G M T.heap; rw [hT]; exact hW, hC.K.to hS (show (T.setVm vm1).heap = H from hT) hW1⟩⟩)
  dsimp only [Pt.U, Pt.locs, Pt.cells, Pt.slots] at X' e1 e2 h1 h2 h3 st9
  subst h1; subst h2; subst h3
  exact ⟨v, (T.setVm vm1).calling g' mk (Value.ref b :: As).toArray, t, U', L, hT, X', hL, e1, e2, hq, st9⟩
end GU2
theorem gMonoU_v {l : Launch} {y : MethodName} {cc : ByteArray} {maxL : Nat} {ret : Option FieldType} {rm : Room} {G : gG} {Pc : Array Value → State → Prop} {post post' : gM → Nat → Prop} {mc ms : Nat} {free : Addr → Prop} (h : MetU l y cc maxL ret rm Pc (gQv G post) mc ms free) (hp : ∀ M k, post M k → post' M k) : MetU l y cc maxL ret rm Pc (gQv G post') mc ms free := by
  intro p e s m args below meth c X h1 h2 h3 h4 h5 h6 h7
  obtain ⟨t, a1, o, b1, b2, ⟨⟨M', k, c1, c2, c3, c4⟩, c5⟩, b4⟩ := h p e s m args below meth c X h1 h2 h3 h4 h5 h6 h7
  exact ⟨t, a1, o, b1, b2, ⟨⟨M', k, c1, hp _ _ c2, c3, c4⟩, c5⟩, b4⟩
theorem gMonoU_i {l : Launch} {y : MethodName} {cc : ByteArray} {maxL : Nat} {ret : Option FieldType} {rm : Room} {G : gG} {Pc : Array Value → State → Prop} {post post' : Int32 → gM → Nat → Prop} {mc ms : Nat} {free : Addr → Prop} (h : MetU l y cc maxL ret rm Pc (gQi G post) mc ms free) (hp : ∀ r M k, post r M k → post' r M k) : MetU l y cc maxL ret rm Pc (gQi G post') mc ms free := by
  intro p e s m args below meth c X h1 h2 h3 h4 h5 h6 h7
  obtain ⟨t, a1, o, b1, b2, ⟨⟨r, M', k, c1, c2, c3, c4⟩, c5⟩, b4⟩ := h p e s m args below meth c X h1 h2 h3 h4 h5 h6 h7
  exact ⟨t, a1, o, b1, b2, ⟨⟨r, M', k, c1, hp _ _ _ c2, c3, c4⟩, c5⟩, b4⟩
