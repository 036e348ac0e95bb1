/-! methods with handlers; methods that may throw -/
theorem met_W {l : Launch} {y : MethodName} {ws : List Cond} {rm : Room} {Qc : Array Value → State → Outcome → State → Prop} {mc ms : Nat} {free : Addr → Prop} {cc : ByteArray} {maxL : Nat} {ret : Option FieldType} {hh : List (Nat × Nat × Nat × Nat)} {D : va_G} {cf : cmap} {A : Nat → Prop} {av : List Value} (hy : plainName y.cls = true) (hw0 : ws = Cond.codeWith y cc maxL ret hh :: lw_all) (hn : (lg_sl av).length ≤ maxL)
    (body : ∀ (p : Program) (e : Env) (s : State) (m : MethodId) (below : List Frame) (meth : Method) (c : Code) (ls : Array Slot), p.tables.exec = Jvm.exec → c.code = cc → meth.sig.returnType = ret → c.maxLocals = maxL → s.vm.findClass y.cls = some m.cls → (∀ w ∈ lw_all, w.before av.toArray s = true) → meth.locks = false → lv_has ls maxL (lv_args 0 av) → hw D cf A s.heap → KK D s → c.exceptionTable.toList.map (fun h => (h.startPc, h.endPc, h.handlerPc, h.catchType)) = hh →
      W p l e rm s m av.toArray below meth c s.heap [] 0 0 (MQ below Qc av.toArray s mc ms free) (F0 m 0 ls [])) : Met l y ws rm (va_Pc av (pI D cf A)) Qc mc ms free := by
  refine va_MetW (cc := cc) (maxL := maxL) (ret := ret) (hh := hh) hy hw0 ?_
  intro p e s m args below meth c s₁ B hml hv
  obtain ⟨rfl, hI, hK⟩ := hv
  have hts := atoms_spec (ws := ws) B.pre
  have hl := lv_entry av (n := maxL) hn
  rw [lg_entry_eq]
  obtain ⟨m9, meth9, c9, hn9, h1, h2, -, -, h5, -, -, -⟩ := Cond.codeWith_spec (hts _ (by rw [hw0]; exact List.mem_cons_self))
  cases B.named.symm.trans hn9
  cases B.method.symm.trans h1
  cases (Stand.of_body B).code.symm.trans h2
  exact body p e s m below meth c _ B.exec B.bytes B.returns hml (findClass_of_methodNamed B.named) (fun w h => hts w (by rw [hw0]; exact List.mem_cons_of_mem _ h)) B.notSynchronized hl hI hK h5
/-- a contract whose end may be a throw -/
def MetX (l : Launch) (y : MethodName) (ws : List Cond) (rm : Room) (Pc : Array Value → State → Prop) (Qc : Array Value → State → Outcome → State → Prop) (free : Addr → Prop) : Prop :=
  MetFree l y (headSpec ws rm) Pc (fun _ _ _ _ _ => True) (fun a st o t => Qc a st o t ∧ st.WarmedH t.vm ∧ ∃ L, st.sameButNew ({ t with vm := st.vm } : State) L 0 0 ∧ ∀ q ∈ L, free q.base)
def MQX (below : List Frame) (Qc : Array Value → State → Outcome → State → Prop) (a : Array Value) (s : State) (free : Addr → Prop) : State → Prop := fun t =>
  ∃ o, t.status = .running ∧ Ended t below o ∧ Qc a s o t ∧ s.WarmedH t.vm ∧ ∃ L, s.sameButNew ({ t with vm := s.vm } : State) L 0 0 ∧ ∀ q ∈ L, free q.base
def xQ (D : va_G) (cf : cmap) (A : Nat → Prop) (o : Outcome) : Array Value → State → Outcome → State → Prop := fun _ st oc t => oc = o ∧ hw D cf A t.heap ∧ va_F A st t
theorem met_X {l : Launch} {y : MethodName} {ws : List Cond} {rm : Room} {Qc : Array Value → State → Outcome → State → Prop} {free : Addr → Prop} {cc : ByteArray} {maxL : Nat} {ret : Option FieldType} {D : va_G} {cf : cmap} {A : Nat → Prop} {av : List Value} (hy : plainName y.cls = true) (hw0 : ws = Cond.code y cc maxL ret :: lw_all) (hn : (lg_sl av).length ≤ maxL)
    (body : ∀ (p : Program) (e : Env) (s : State) (m : MethodId) (below : List Frame) (meth : Method) (c : Code) (ls : Array Slot), p.tables.exec = Jvm.exec → c.code = cc → meth.sig.returnType = ret → c.maxLocals = maxL → s.vm.findClass y.cls = some m.cls → (∀ w ∈ lw_all, w.before av.toArray s = true) → meth.locks = false → lv_has ls maxL (lv_args 0 av) → hw D cf A s.heap → KK D s → (∀ x ∈ c.exceptionTable.toList, ∀ pc, covers x pc = false) →
      W p l e rm s m av.toArray below meth c s.heap [] 0 0 (MQX below Qc av.toArray s free) (F0 m 0 ls [])) : MetX l y ws rm (va_Pc av (pI D cf A)) Qc free := by
  refine MetFree.of_bodyS (code := cc) (maxLocals := maxL) (ret := ret) hy ?_ ?_
  · intro args s m h hn
    obtain ⟨meth, c, h1, h2, h3, h4, h5, h6, -, -⟩ := Cond.code_spec hn (atoms_spec (ws := ws) h _ (by rw [hw0]; exact List.mem_cons_self))
    exact ⟨meth, c, h1, h2, h3, h4, h5, h6⟩
  · intro p e s m args below meth c s₁ B hml hv _
    obtain ⟨rfl, hI, hK⟩ := hv
    have hh0 : s₁.heap = s.heap := by rw [B.state]; rfl
    have hts := atoms_spec (ws := ws) B.pre
    have hl := lv_entry av (n := maxL) hn
    have hemp := B.noHandlers (hts _ (by rw [hw0]; exact List.mem_cons_self))
    have hnil : c.exceptionTable.toList = [] := List.eq_nil_of_length_eq_zero (by simpa [Array.isEmpty] using hemp)
    have hb := body p e s m below meth c _ B.exec B.bytes B.returns hml (findClass_of_methodNamed B.named) (fun w h => hts w (by rw [hw0]; exact List.mem_cons_of_mem _ h)) B.notSynchronized hl hI hK (fun x hx => by rw [hnil] at hx; cases hx)
    rw [← lg_entry_eq] at hb
    obtain ⟨t, a1, o, b1, b2, b3⟩ := hb s₁ hh0 (Stand.of_body B)
    exact ⟨t, o, a1, b1, b2, b3⟩
section XW
variable {p : Program} {l : Launch} {e : Env} {R : Room} {s : State} {m : MethodId} {args : Array Value} {below : List Frame} {meth : Method} {c : Code} {H H0 : Heap} {locs : List Loc} {cells slots : Nat} {Q Q' : State → Prop}
variable {cc : ByteArray} {pc : Nat} {ls : Array Slot} {rest st0 : List Value} {A : Nat → Prop} {D : va_G} {cf cf' : cmap} {free : Addr → Prop} {Qc : Array Value → State → Outcome → State → Prop}
theorem W_mono {g : JFrame} (h : ∀ t, Q t → Q' t) (k : W p l e R s m args below meth c H locs cells slots Q g) : W p l e R s m args below meth c H locs cells slots Q' g := by
  intro T hT X
  obtain ⟨t, a, b⟩ := k T hT X
  exact ⟨t, a, h t b⟩
theorem MQ_X {a : Array Value} : ∀ t, MQ below Qc a s 0 0 free t → MQX below Qc a s free t := by
  intro t ⟨o, h1, h2, h3, L, ⟨_, h4, h5⟩, h6⟩
  exact ⟨o, h1, h2, h3, h4, L, h5, h6⟩
/-- a throw that leaves the method -/
theorem x_athrow (hexec : p.tables.exec = Jvm.exec) (hb : c.code = cc) (hlocks : meth.locks = false) (hout : ∀ x ∈ c.exceptionTable.toList, ∀ pc, covers x pc = false) {a : Nat} (hq : ∀ t : State, t.heap = H → s.WarmedH t.vm → Qc args s (.threw a) t) (hf : ∀ q ∈ locs, free q.base) (hdg : decode cc pc = .ok (.athrow, 1)) :
    W p l e R s m args below meth c H locs 0 0 (MQX below Qc args s free) (F0 m pc ls (.ref a :: rest)) := by
  intro T hT X
  obtain ⟨h1, h2, h3, h4, h5⟩ := X.athrowLeaves hexec (g := F0 m pc ls (.ref a :: rest)) rfl rfl rfl (fun x hx => hout x hx _) rfl (by rw [hb]; exact hdg) hlocks
  exact ⟨_, h1, .threw a, h2, h3, hq _ hT h4, h4, locs, h5, hf⟩
def XRun (p : Program) (l : Launch) (e : Env) (R : Room) (s : State) (m : MethodId) (args : Array Value) (below : List Frame) (meth : Method) (c : Code) (H : Heap) (locs : List Loc) (cells slots : Nat) (g : JFrame) (rest : List Value) (Qa : State → Outcome → State → Prop) (free : Addr → Prop) : Prop :=
  ∀ T : State, T.heap = H → Stand p l e R s m args below meth c T locs cells slots → ∃ (o : Outcome) (st₀ t T' : State) (L : List Loc), st₀.heap = H ∧ Stand p l e R s m args below meth c T' (locs ++ L) cells slots ∧ (∀ q ∈ L, free q.base) ∧ T'.heap = t.heap ∧ Qa st₀ o t ∧
    ∀ target, Steps p.tables e below (match o with | .returned v => T'.setTop { g with pc := g.pc + 3, stack := v.toList ++ rest } | .threw x => (T'.setTop { g with stack := rest }).pushFrame (.throwing x)) target → Steps p.tables e below (T.setTop g) target
theorem runX_core {T : State} (X : Stand p l e R s m args below meth c T locs cells slots) {y : MethodName} {ws : List Cond} {rm : Room} {Pc : Array Value → State → Prop} {maxL : Nat} (hM : MetX l y ws rm Pc Qc free) (hrm : rm.cells = 0 ∧ rm.slots = 0) (hR : rm.frames + 1 ≤ R.frames ∧ 8 + (maxL + 11) + rm.locals ≤ R.locals) (hcs : cells ≤ R.cells ∧ slots ≤ R.slots)
    (hws : ∀ w ∈ ws, ∀ (a' : Array Value) (U : State), s.WarmedH U.vm → w.before a' U = true) (hini : ∀ (a' : Array Value) (U : State), s.WarmedH U.vm → (Cond.initialized y.cls).before a' U = true) {mk : MethodId} (hnamed : s.methodNamed? y = some mk) {methM : Method} {cM : Code} (hmM : s.vm.method? mk = some methM) (hcM : methM.code = some cM) (hlM : cM.maxLocals = maxL)
    {g : JFrame} (hg : g.method = m) (hsize : g.locals.size = c.maxLocals) {ig : Instr} (hdg : decode c.code g.pc = .ok (ig, 3)) (hW : 2 * g.monitorRoom + (g.stack.map fun v => v.category).sum ≤ 8) {a : Array Value} (hPc : Pc a (T.calling g mk a)) :
    ∃ (o : Outcome) (t T' : State) (L : List Loc), Stand p l e R s m args below meth c T' (locs ++ L) cells slots ∧ T'.heap = t.heap ∧ Qc a (T.calling g mk a) o t ∧ (∀ q ∈ L, free q.base) ∧
      Steps p.tables e below (doInvoke e (T.setTop g) [] mk a).1 (match o with | .returned v => T'.setTop { g with pc := g.pc + 3, stack := v.toList ++ g.stack } | .threw x => (T'.setTop g).pushFrame (.throwing x)) := by
  have h : At T g.method c below := by rw [hg]; exact X.here
  have hn : T.methodNamed? y = some mk := X.named hnamed
  have hmY : T.vm.method? mk = some methM := by rw [X.warmed.alike.method?]; exact hmM
  obtain ⟨kY, hkY, -⟩ := className_of_methodNamed hn
  have hinitY : kY.init = .initialized := Cond.initialized_spec (findClass_of_methodNamed hn) hkY (hini a T X.warmed)
  have happ : (headSpec ws rm).appliesLoose y e.platform (T.calling g mk a) = true :=
    Spec.appliesLoose_calling (g := g) h hdg hn hkY hinitY (X.room_calling (g := g) (R' := rm) hsize hmY hcM hR.1 (by rw [hlM]; omega) (by rw [hrm.1]; exact hcs.1) (by rw [hrm.2]; exact hcs.2)) (atoms_intro fun w hw => hws w hw _ _ X.warmed)
  obtain ⟨mid, hmid⟩ := h.above
  have hfr : (T.setTop g).frames = (.java g :: mid) ++ below := by rw [State.frames_setTop' g h.top, hmid]; rfl
  obtain ⟨o, s₂, hsteps, -, hend, hq, hwm, L, hsame, hL⟩ := Steps.callFree hM p X.admits X.cas X.clock (acts := []) hfr happ hPc trivial
  rw [State.frames_setTop' g h.top, X.tail] at hend
  cases o with
  | returned v =>
    obtain ⟨T', X', -, -, ht⟩ := X.outOf hg hdg hend hwm hsame
    subst ht
    exact ⟨.returned v, T'.setTop { g with pc := g.pc + 3, stack := v.toList ++ g.stack }, T', L, X', rfl, hq, hL, hsteps⟩
  | threw x =>
    obtain ⟨T', X', -, -, ht⟩ := X.outOfThrown hg hend hwm hsame
    subst ht
    exact ⟨.threw x, _, T', L, X', (Stand.throwing_heap T' g x).symm, hq, hL, hsteps⟩
variable {y : MethodName} {bytes : ByteArray} {maxL nL n index : Nat} {ret : Option FieldType} {rm : Room} {own C : String} {b i ci : Nat} {As : List Value} {fs : List Value} {q : vw_C}
/-- a call of a method of one's own class (private or not) that may throw -/
theorem k_X (S : CallFix p m c cc nL s args lw_all own) (hM : MetX l y (ws_ y bytes maxL ret) rm (va_Pc (.ref b :: As) (pI D cf A)) Qc free) (hrm : rm.cells = 0 ∧ rm.slots = 0) (hR : rm.frames + 1 ≤ R.frames ∧ 8 + (maxL + 11) + rm.locals ≤ R.locals)
    (q1 : Cond.methodLink own index y ∈ lw_all) (q2 : Cond.instanceMethod y ∈ lw_all) (q3 : Cond.selects C y y ∈ lw_all) (q4 : Cond.initialized y.cls ∈ lw_all) (q5 : Cond.code y bytes maxL ret ∈ lw_all) (hd : y.cls ≠ "java/lang/invoke/MethodHandle" ∧ y.cls ≠ "java/lang/invoke/VarHandle" ∧ (parseMethodDescriptor y.desc).map (fun d => d.parameters.length) = some n)
    (hI : hw D cf A H) (hK : KK D s) (hr : ∃ cellB : Cell, H[b]? = some cellB ∧ cellB.vm.isStatics = false ∧ s.vm.findClass C = some cellB.cls)
    (hn : As.length = n) (hsize : ls.size = nL) (hstack : st0 = As.reverse ++ .ref b :: rest) (hW : (rest.map fun v => v.category).sum ≤ 8) (hdg : decode cc pc = .ok (.invokevirtual index, 3)) (hf : cells ≤ R.cells ∧ slots ≤ R.slots) :
    XRun p l e R s m args below meth c H locs cells slots (F0 m pc ls st0) rest (Qc (Value.ref b :: As).toArray) free := by
  obtain ⟨hx, hb, hml, hown, hts⟩ := S
  obtain ⟨cellB, hcB, hoB, hclB⟩ := hr
  obtain ⟨mk, methM, hnamed, hmethM, hstM, habM⟩ := Cond.instanceMethod_spec (hts _ q2)
  obtain ⟨methM', cM, hmethM', hcM, -, hlM, -, -, -, hsigM⟩ := Cond.code_spec hnamed (hts _ q5)
  cases hmethM.symm.trans hmethM'
  obtain ⟨c2, r2, m2, z1, z2, z3, z4, kP, hkP, hkPi⟩ := Cond.selects_spec (hts _ q3)
  cases hclB.symm.trans z1
  cases (State.methodFound?_of_named hnamed ⟨hd.1, hd.2.1⟩).symm.trans z2
  cases hnamed.symm.trans z3
  intro T hT X
  have hselP : selectMethod e.platform s.vm cellB.cls mk = .method mk := by rw [Launch.admits_selectMethod X.admits]; exact z4
  obtain ⟨vm₁, X₁, hstep₁⟩ := X.invokevirtual hx hown (hts _ q1) hnamed hmethM hstM hkP hkPi ⟨hd.1, hd.2.1⟩ (a := b) (cell := cellB) (by rw [hT]; exact hcB)
    (fun z h => by rw [h] at hoB; cases hoB) hselP hmethM habM hkP hkPi (g := F0 m pc ls st0) rfl (argsL := As) (rest := rest) (by have h2 := hd.2.2; rw [hsigM] at h2; rw [hn]; exact (Option.some.inj h2).symm) hstack (by rw [hb]; exact hdg)
  obtain ⟨o, t, T', L, X', h1, h2, h3, h4⟩ := runX_core X₁ hM hrm hR hf (pay_in hts (lw_meth q5)) (fun a' U hW => word_at hW (Or.inl (by first | rfl | simp [Cond.onTables, Cond.keeps, Cond.steady])) (hts _ q4)) hnamed hmethM hcM hlM (g := F0 m pc ls rest) rfl (hsize.trans hml.symm) (by rw [hb]; exact hdg) (lv_room (m := m) (pc := pc) (ls := ls) (rest := rest) hW) (a := (Value.ref b :: As).toArray) (pI_blind _ _ _ _ (pI_pre hI hK _ hT X₁.warmed))
  exact ⟨o, (T.setVm vm₁).calling (F0 m pc ls rest) mk (Value.ref b :: As).toArray, t, T', L, hT, X', h3, h1, h2, fun target h => hstep₁ _ fun acts => by rw [doInvoke_state]; exact h4.trans h⟩
theorem x_ret {ov : Option Value} {a : Array Value} (hr : XRun p l e R s m args below meth c H locs cells slots (F0 m pc ls st0) rest (xQ D cf' A (.returned ov) a) A) (hS : va_S A H0 H locs)
    (kk : ∀ (H1 : Heap) (locs1 : List Loc), hw D cf' A H1 → va_S A H0 H1 locs1 → W p l e R s m args below meth c H1 locs1 cells slots Q (F0 m (pc + 3) ls (ov.toList ++ rest))) : W p l e R s m args below meth c H locs cells slots Q (F0 m pc ls st0) := by
  intro T hT X
  obtain ⟨o, st₀, t, T', L, h0, X', hL, e1, ⟨rfl, hI, hz, hk⟩, st⟩ := hr T hT X
  rw [h0] at hz hk
  obtain ⟨t2, a1, b1⟩ := kk T'.heap (locs ++ L) (by rw [e1]; exact hI) ⟨Nat.le_trans hS.1 (by rw [e1]; exact hz), fun q h1 h2 => by rw [e1, hk q (Nat.lt_of_lt_of_le h1 hS.1) h2]; exact hS.2.1 q h1 h2, fun q hq => by
      rcases List.mem_append.mp hq with h | h
      · exact hS.2.2 q h
      · exact hL q h⟩ T' rfl X'
  exact ⟨t2, st t2 a1, b1⟩
/-- the callee throws, and nobody here catches -/
theorem x_thr {x : Nat} {a : Array Value} (hr : XRun p l e R s m args below meth c H locs 0 0 (F0 m pc ls st0) rest (xQ D cf' A (.threw x) a) A) (hS : va_S A s.heap H locs) (hlocks : meth.locks = false) (hout : ∀ x ∈ c.exceptionTable.toList, ∀ pc, covers x pc = false) : W p l e R s m args below meth c H locs 0 0 (MQX below (xQ D cf' A (.threw x)) args s A) (F0 m pc ls st0) := by
  intro T hT X
  obtain ⟨o, st₀, t, T', L, h0, X', hL, e1, ⟨rfl, hI, hz, hk⟩, st⟩ := hr T hT X
  rw [h0] at hz hk
  obtain ⟨h1, h2, h3, h4, h5⟩ := X'.leaveThrown x (g := F0 m pc ls rest) rfl rfl rfl (fun x hx => hout x hx _) hlocks
  refine ⟨_, st _ h1, .threw x, h2, h3, ⟨rfl, ?_, ?_, ?_⟩, h4, locs ++ L, h5, fun q hq => ?_⟩
  · show hw D cf' A T'.heap
    rw [e1]; exact hI
  · show s.heap.size ≤ T'.heap.size
    rw [e1]; exact Nat.le_trans hS.1 hz
  · intro q g1 g2
    show T'.heap[q]? = _
    rw [e1, hk q (Nat.lt_of_lt_of_le g1 hS.1) g2]; exact hS.2.1 q g1 g2
  · rcases List.mem_append.mp hq with h | h
    · exact hS.2.2 q h
    · exact hL q h
/-- the search of a table of one entry that names a class, resolved or not -/
theorem find_cold {T : State} {f : JFrame} {a : Nat} {methF : Method} {codeF : Code} (hm : T.vm.method? f.method = some methF) (hc : methF.code = some codeF) {x : ExceptionTableEntry} (ht : codeF.exceptionTable.toList = [x]) (hx : covers x f.pc = true) (h0 : x.catchType ≠ 0) {cT : ClassId} {vm' : Vm} {cell : Cell}
    (hg : (Jvm.resolveClass f.method.cls x.catchType).Gives e.toSetting T.vm (.ok cT) vm') (hsz : vm'.classes.size ≤ T.vm.classes.size) (hcell : T.heap[a]? = some cell) (hobj : ∀ k, cell.vm ≠ .statics k) (hk : ∃ k, vm'.classes[cell.cls]? = some k) (hcl : ∃ k, vm'.classes[cT]? = some k) (hfit : vm'.assignable cell.cls cT = true)
    (Q0 : Handler → Pre) (E : CtlPost) (d : Bool) (acts : List Action) : wp (findHandler f a) Q0 E e d acts T ↔ Q0 (.found x.handlerPc) d acts (T.setVm vm') := by
  rw [W.findHandler_eq hm hc, ht]
  obtain ⟨ha, ht2⟩ := hg.op (op := VmOp.resolveClass f.method.cls x.catchType) rfl
  simp only [covers] at hx
  simp [findHandler.go, hx, h0, ha, ht2, hsz, hcell, hobj, hk, hcl, hfit, VmOp.dirties, VmOp.acts]
theorem step_cold {T : State} {f : JFrame} {a hp : Nat} {vm' : Vm} {r : List Frame} (hfind : ∀ (Q0 : Handler → Pre) (E : CtlPost) (d : Bool) (acts : List Action), wp (findHandler f a) Q0 E e d acts T ↔ Q0 (.found hp) d acts (T.setVm vm')) :
    (stepThrowing e T a (.java f :: r)).Is ((T.setVm vm').setFrames (.java { f with pc := hp, stack := [.ref a] } :: r)) [] := by
  simp only [stepThrowing, searchFrame, vmDo]
  generalize hr : Sem.go _ e false [] T = res
  obtain ⟨as, rfl, ha⟩ := Sem.eq_ok_of hr (a := Handler.found hp) (s' := T.setVm vm') (acts' := []) (by simp [hfind _ _ _ _])
  exact ⟨rfl, ha⟩
theorem caught_cold {tb : Tables} {T target : State} {g : JFrame} {a hp : Nat} {vm' : Vm} (h : At T g.method c below) (hfind : ∀ (Q0 : Handler → Pre) (E : CtlPost) (d : Bool) (acts : List Action), wp (findHandler g a) Q0 E e d acts ((T.setTop g).pushFrame (.throwing a)) ↔ Q0 (.found hp) d acts (((T.setTop g).pushFrame (.throwing a)).setVm vm'))
    (hrest : Steps tb e below ((T.setVm vm').setTop { g with pc := hp, stack := [.ref a] }) target) : Steps tb e below ((T.setTop g).pushFrame (.throwing a)) target := by
  obtain ⟨hgo, hw⟩ := h.throwing a
  refine Steps.head hgo hw ?_
  rw [stepThread_throwing (frames_entered h.top _), (step_cold (T := (T.setTop g).pushFrame (.throwing a)) hfind).1]
  obtain ⟨g₀, hg⟩ := Option.isSome_iff_exists.mp h.top
  obtain ⟨r, hr⟩ := State.topJava?_eq_some.mp hg
  have hr2 : (T.setVm vm').frames = .java g₀ :: r := hr
  rw [State.setTop_of_frames _ hr2] at hrest
  have e2 : (((T.setTop g).pushFrame (.throwing a)).setVm vm').setFrames (.java { g with pc := hp, stack := [.ref a] } :: T.frames.tail) = (T.setVm vm').setFrames (.java { g with pc := hp, stack := [.ref a] } :: r) := by
    rw [State.pushFrame, State.setTop_of_frames _ hr, State.setFrames_setFrames, hr]
    exact State.setFrames_setFrames (T.setVm vm') _ _
  rw [e2]
  exact hrest
/-- the callee throws, and the one handler here, that names its class, takes it -/
theorem x_catch {xa hp i2 st en : Nat} {nm : String} {idx : Nat} {a : Array Value} (hr : XRun p l e R s m args below meth c H locs cells slots (F0 m pc ls st0) rest (xQ D cf' A (.threw xa) a) A) (hS : va_S A H0 H locs) (hown : s.vm.findClass own = some m.cls) (hlink : (Cond.classLink own idx nm).before args s = true) (hh : c.exceptionTable.toList.map (fun h => (h.startPc, h.endPc, h.handlerPc, h.catchType)) = [(st, en, hp, idx)]) (hc1 : st ≤ pc) (hc2 : pc < en) (h0 : idx ≠ 0) (hK : KK D s) (hcl : clA[ci]? = some q) (hqn : q.1 = nm) (he : cf' i2 = some (xa, .inr (ci, fs)))
    (kk : ∀ (H1 : Heap) (locs1 : List Loc), hw D cf' A H1 → va_S A H0 H1 locs1 → W p l e R s m args below meth c H1 locs1 cells slots Q (F0 m hp ls [.ref xa])) : W p l e R s m args below meth c H locs cells slots Q (F0 m pc ls st0) := by
  intro T hT X
  obtain ⟨o, st₀, t, T', L, hh0, X', hL, e1, ⟨rfl, hI, hz, hk⟩, stp⟩ := hr T hT X
  rw [hh0] at hz hk
  have hpl : e.platform.magicAccessors = ({} : Platform).magicAccessors := by rw [X'.admits.platform]
  obtain ⟨cT, hcT, hclk⟩ := Cond.classLink_spec hown hlink e.platform hpl
  obtain ⟨dk, _, _, kt, hd, _, _, _, _, hkt, _, hopen⟩ := hclk.here
  have hcl₀ := X'.warmed.classLinks hclk
  have hW' : s.WarmedH (T'.vm.noted m.cls idx (.cls cT)) := X'.warmed.noted hd hopen (State.rightAt_cls hclk)
  obtain ⟨hfc, kB, hkB, hkind⟩ := (hK.1.1 ci q hcl).2
  have hcTe : cT = D.1 ci := Option.some.inj (hcT.symm.trans (by rw [← hqn]; exact hfc))
  subst hcTe
  obtain ⟨⟨r9, hr9, cell, w1, w2, w3, -⟩, -⟩ := hI.1 i2 _ _ he
  have w1' : T'.heap[xa]? = some cell := by rw [e1]; exact w1
  obtain ⟨x0, hx0, hx1⟩ : ∃ x0, c.exceptionTable.toList = [x0] ∧ (x0.startPc, x0.endPc, x0.handlerPc, x0.catchType) = (st, en, hp, idx) := by
    cases hl : c.exceptionTable.toList with
    | nil => rw [hl] at hh; cases hh
    | cons y0 t0 =>
      rw [hl] at hh
      cases t0 with
      | nil => exact ⟨y0, rfl, by simpa using hh⟩
      | cons y1 t1 => simp at hh
  simp only [Prod.mk.injEq] at hx1
  obtain ⟨z1, z2, z3, z4⟩ := hx1
  obtain ⟨kB', hkB', -⟩ := hW'.alike.2.2 _ _ hkB
  have hasg : (T'.vm.noted m.cls idx (.cls (D.1 ci))).assignable (D.1 ci) (D.1 ci) = true := by rw [hW'.alike.assignable]; exact va_assign (hK.1.1 ci q hcl).2
  have hfind : ∀ (Q0 : Handler → Pre) (E : CtlPost) (d : Bool) (acts : List Action), wp (findHandler (F0 m pc ls rest) xa) Q0 E e d acts ((T'.setTop (F0 m pc ls rest)).pushFrame (.throwing xa)) ↔ Q0 (.found hp) d acts (((T'.setTop (F0 m pc ls rest)).pushFrame (.throwing xa)).setVm (T'.vm.noted m.cls idx (.cls (D.1 ci)))) := by
    have hvm := Stand.throwing_vm T' (F0 m pc ls rest) xa
    have hhp := Stand.throwing_heap T' (F0 m pc ls rest) xa
    rw [← z3]
    refine find_cold (T := (T'.setTop (F0 m pc ls rest)).pushFrame (.throwing xa)) (methF := meth) (codeF := c) (cT := D.1 ci) (cell := cell) (by rw [hvm]; exact X'.method') X'.code hx0 (by simp only [covers, z1, z2]; simp [hc1, hc2]) (by rw [z4]; exact h0) (by rw [hvm, z4]; exact resolveClass_links e.toSetting hcl₀) ?_ (by rw [hhp]; exact w1') (fun k hk => by rw [w3] at hk; cases hk) ⟨kB', by rw [w2]; exact hkB'⟩ ⟨kB', hkB'⟩ (by rw [w2]; exact hasg)
    rw [hvm]
    exact Nat.le_of_eq (by simp [Vm.noted])
  obtain ⟨t2, a1, b1⟩ := kk T'.heap (locs ++ L) (by rw [e1]; exact hI) ⟨Nat.le_trans hS.1 (by rw [e1]; exact hz), fun q h1 h2 => by rw [e1, hk q (Nat.lt_of_lt_of_le h1 hS.1) h2]; exact hS.2.1 q h1 h2, fun q hq => by
      rcases List.mem_append.mp hq with h | h
      · exact hS.2.2 q h
      · exact hL q h⟩ (T'.setVm (T'.vm.noted m.cls idx (.cls (D.1 ci)))) rfl (X'.noted hW')
  exact ⟨t2, stp _ (caught_cold (g := F0 m pc ls rest) X'.here hfind a1), b1⟩
end XW
