/-! super.m(..) where the superclass inherits m -/
section SPI
variable {p : Program} {l : Launch} {e : Env} {R : Room} {s : State} {m : MethodId} {args : Array Value} {below : List Frame} {meth : Method} {c : Code} {H H0 : Heap} {locs : List Loc} {cells slots : Nat}
variable {pc : Nat} {ls : Array Slot} {rest st0 : List Value} {A : Nat → Prop} {D : va_G} {cf : cmap} {free : Addr → Prop}
variable {x y : MethodName} {bytes cc : ByteArray} {maxL nL n index : Nat} {ret : Option FieldType} {ws : List Cond} {rm : Room} {Qc : Array Value → State → Outcome → State → Prop} {own owner : String} {b i ci : Nat} {As : List Value} {fs : List Value} {q : vw_C}
theorem k_SPI (hcl : clA[ci]? = some q) (S : CallFix p m c cc nL s args lw_all own) (hM : Met l y (ws_ y bytes maxL ret) rm (va_Pc (.ref b :: As) (pI D cf A)) Qc 0 0 free) (hrm : rm.cells = 0 ∧ rm.slots = 0) (hR : rm.frames + 1 ≤ R.frames ∧ 8 + (maxL + 11) + rm.locals ≤ R.locals)
    (q1 : Cond.methodLink own index x ∈ lw_all) (q2 : Cond.sameMethod x.cls owner x.name x.desc ∈ lw_all) (q3 : Cond.superclass own x.cls ∈ lw_all) (q4 : Cond.superclass x.cls owner ∈ lw_all) (q5 : Cond.instanceMethod y ∈ lw_all) (q6 : Cond.initialized y.cls ∈ lw_all) (q7 : Cond.code y bytes maxL ret ∈ lw_all) (hyx : y = ⟨owner, x.name, x.desc⟩) (hno : x.name ≠ "<init>") (hpar : (parseMethodDescriptor y.desc).map (fun d => d.parameters.length) = some n)
    (hI : hw D cf A H) (hK : KK D s) (he : cf i = some (b, .inr (ci, fs)))
    (hn : As.length = n) (hsize : ls.size = nL) (hstack : st0 = As.reverse ++ .ref b :: rest) (hW : (rest.map fun v => v.category).sum ≤ 8) (hdg : decode cc pc = .ok (.invokespecial index, 3)) (hf : cells ≤ R.cells ∧ slots ≤ R.slots) :
    va_Run p l e R s m args below meth c H locs cells slots 0 0 (F0 m pc ls st0) rest (Qc (Value.ref b :: As).toArray) free := by
  obtain ⟨hx, hb, hml, hown, hts⟩ := S
  have hB : Back l R p e below s args y 3 8 (PreOf R 0 0 (va_Pc (.ref b :: As) (pI D cf A))) (PostOf Qc 0 0 free) := back_of (bytes := bytes) (maxL := maxL) (ret := ret) hM pI_blind hrm.1 hrm.2 hR.1 hR.2 (pay_in hts (lw_meth q7)) List.mem_cons_self (fun a' U hW => word_at hW (Or.inl (by first | rfl | simp [Cond.onTables, Cond.keeps, Cond.steady])) (hts _ q6))
  obtain ⟨cellB, hcB, hoB, hclB⟩ := hw.recv hI hK he hcl
  obtain ⟨hfc, kB, hkB, -⟩ := (hK.1.1 ci q hcl).2
  rw [Option.some.inj (hfc.symm.trans hclB)] at hkB
  obtain ⟨mk, methM, hnamed, hmethM, hstM, habM⟩ := Cond.instanceMethod_spec (hts _ q5)
  obtain ⟨methM', cM, hmethM', -, -, -, -, -, -, hsigM⟩ := Cond.code_spec hnamed (hts _ q7)
  cases hmethM.symm.trans hmethM'
  obtain ⟨ps, dk, kp, hps, hdk, hkp, hsuper, -, -, hnid⟩ := Cond.superclass_spec hown (hts _ q3)
  obtain ⟨ps2, dk2, kp2, hps2, hdk2, hkp2, hsuper2, -, -, -⟩ := Cond.superclass_spec hps (hts _ q4)
  cases hkp.symm.trans hdk2
  have hn2 : s.methodNamed? ⟨owner, x.name, x.desc⟩ = some mk := by rw [← hyx]; exact hnamed
  have hpm : ps2 = mk.cls := Option.some.inj (hps2.symm.trans (findClass_of_methodNamed hn2))
  have hsub : s.vm.isSubclass ps mk.cls = true := by
    rw [← hpm]
    simp [Vm.isSubclass, Vm.isSubclassAux, hkp, hsuper2]
    right
    have hlt : ps < s.vm.classes.size := (Array.getElem?_eq_some_iff.mp hkp).1
    obtain ⟨k, hk⟩ : ∃ k, s.vm.classes.size = k + 1 := Nat.exists_eq_add_one_of_ne_zero (Nat.ne_of_gt (Nat.lt_of_le_of_lt (Nat.zero_le _) hlt))
    rw [hk]
    simp [Vm.isSubclassAux]
  intro T hT X
  obtain ⟨vm₁, X₁, hstep₁⟩ := X.invokespecialUp hx hown (hts _ q1) (hts _ q2) hn2 hmethM hstM habM hno hdk hnid hps hsuper hsub (a := b) (cell := cellB) (by rw [hT]; exact hcB)
    (fun z h => by rw [h] at hoB; cases hoB) hkB (g := F0 m pc ls st0) rfl (argsL := As) (rest := rest) (by rw [hn]; rw [hsigM] at hpar; exact (Option.some.inj hpar).symm) hstack (by rw [hb]; exact hdg)
  obtain ⟨v, ⟨U', l2, c2, s2⟩, X', ⟨g', mk', t, L, e1, e2, hq, h1, hL, h2, h3⟩, hsteps⟩ := hB m meth c ⟨T.setVm vm₁, locs, cells, slots⟩ (F0 m pc ls rest) (.invokespecial index) mk (Value.ref b :: As).toArray X₁ rfl (hsize.trans hml.symm) (by rw [hb]; exact hdg) (lv_room (m := m) (pc := pc) (ls := ls) (rest := rest) hW) (X₁.named hnamed) ⟨hf.1, hf.2, pI_pre hI hK _ hT X₁.warmed⟩
  dsimp only [Pt.U, Pt.locs, Pt.cells, Pt.slots] at X' e1 e2 h1 h2 h3 hsteps
  subst h1; subst h2; subst h3
  exact ⟨v, (T.setVm vm₁).calling g' mk' (Value.ref b :: As).toArray, t, U', L, hT, X', hL, e1, e2, hq, fun target h => hstep₁ _ (by rw [doInvoke_state]; exact hsteps.trans h)⟩
end SPI
section HALF
variable {p : Program} {l : Launch} {e : Env} {R : Room} {s : State} {m : MethodId} {args : Array Value} {below : List Frame} {meth : Method} {c : Code} {H H0 : Heap} {locs : List Loc} {cells slots : Nat}
variable {pc : Nat} {ls : Array Slot} {rest st0 : List Value} {A : Nat → Prop} {D : va_G} {cf : cmap} {free : Addr → Prop}
theorem hf_sel {Q : Selection → Pre} {E : CtlPost} {d : Bool} {acts : List Action} {T : State} {c : ClassId} {r m : MethodId} {rmeth meth : Method} {mk : Class} (hsel : selectMethod e.platform T.vm c r = .method m) (hrm : T.vm.method? r = some rmeth) (hm : T.vm.method? m = some meth)
    (hmk : T.vm.classes[m.cls]? = some mk) (hitf : mk.isInterface = true) (hnear : hfN T.vm c rmeth.name rmeth.desc m) : wp (Op.invokeinterface.selectVirtual c r) Q E e d acts T ↔ Q (.method m) d acts T := by
  by_cases hp : e.platform.privateHidesDefault = true
  · rcases hn : nearestHeld T.vm c rmeth.name rmeth.desc with _ | ⟨k, h⟩
    · simp [Op.invokeinterface.selectVirtual, hrm, Op.selectFor_method hsel hm, hmk, hitf, hp, hn]
    · cases h with
      | nothing => simp [Op.invokeinterface.selectVirtual, hrm, Op.selectFor_method hsel hm, hmk, hitf, hp, hn]
      | default q =>
        have := hnear.1 k q hn
        subst this
        simp [Op.invokeinterface.selectVirtual, hrm, Op.selectFor_method hsel hm, hmk, hitf, hp, hn]
      | thrower b => exact absurd hn (hnear.2 k b)
  · simp [Op.invokeinterface.selectVirtual, hrm, Op.selectFor_method hsel hm, hmk, hitf, hp]
theorem hf_wp {Q : Unit → Pre} {E : CtlPost} {d : Bool} {acts : List Action} {T : State} {f : JFrame} {index a : Nat} {r m' : MethodId} {c' : ClassId} {k k' mk : Class} {rmeth meth' : Method} {As : List Value} {cell : Cell}
    (hs : T.topJava?.isSome) (hnm : namesResolved T.vm f.method.cls index c') (hk' : T.vm.classes[c']? = some k') (hcl : k'.isInterface = false) (hr : T.vm.methodReady f.method.cls index r) (hk : T.vm.classes[r.cls]? = some k) (hrm : T.vm.method? r = some rmeth) (hpo : signaturePolymorphic k rmeth = false) (hst : rmeth.isStatic = false) (hlen : As.length = rmeth.sig.parameters.length) (hstk : f.stack = As.reverse ++ .ref a :: rest)
    (hcell : T.heap[a]? = some cell) (hobj : ∀ c, cell.vm ≠ .statics c) (hsel : selectMethod e.platform T.vm cell.cls r = .method m') (hm : T.vm.method? m' = some meth') (hab : meth'.isAbstract = false) (hmk : T.vm.classes[m'.cls]? = some mk) (hitf : mk.isInterface = true) (hnear : hfN T.vm cell.cls rmeth.name rmeth.desc m') :
    wp (Op.invokevirtual.sem index) Q E e d acts (T.setTop f) ↔ E (.invoke m' (.ref a :: As).toArray) acts (T.setTop { f with stack := rest }) := by
  obtain ⟨kc, cfl, ci, n, h1, h2, h3, h4⟩ := hnm
  have hcls : ∀ {Q' : ClassId → Pre}, wp (Jvm.refClassAt index) Q' E e d acts (T.setTop f) ↔ Q' c' d acts (T.setTop f) := by
    intro Q'
    rcases h3 with h3 | h3 <;> simp [Jvm.refClassAt, Jvm.constantAt, State.method?_setTop f hs, h1, h2, h3, W.resolveClassAt_ready (State.method?_setTop f hs) h4]
  simp only [Op.invokevirtual.sem, wp_bind', hcls, W.theClass, State.vm_setTop, hk', Option.some.injEq, exists_eq_left', W.ite, hcl, Bool.false_eq_true, if_false, wp_pure', W.resolveMethodAt_ready (State.method?_setTop f hs) hr]
  simp only [W.theMethod, State.vm_setTop, hrm, Option.some.injEq, exists_eq_left', Seam.isPolymorphic, wp_bind', W.theClass, hk, wp_pure', hpo, W.ite, Bool.false_eq_true, if_false, hst, Jvm.popArgs, ← hlen, Op.popN_top hs hstk]
  simp [hs, hcell, hobj, hf_sel (T := T.setTop _) (show selectMethod e.platform (T.setTop _).vm cell.cls r = .method m' from hsel) hrm hm hmk hitf hnear, hm, hab]
theorem hf_call {T : State} (X : Stand p l e R s m args below meth c T locs cells slots) (hexec : p.tables.exec = Jvm.exec) (hown : s.vm.findClass "LeftGloves$Mitten" = some m.cls) (hF : HF s) {C : String} (hL : hfL C s) {a : Addr} {cell : Cell} (hcell : T.heap[a]? = some cell) (hobj : ∀ c, cell.vm ≠ .statics c) (hC : s.vm.findClass C = some cell.cls)
    {m' : MethodId} {meth' : Method} (hn : s.methodNamed? ⟨"LeftGloves$Hears", "half", "(I)I"⟩ = some m') (hm' : s.vm.method? m' = some meth') (hst : meth'.isStatic = false) (hab : meth'.isAbstract = false)
    {g : JFrame} (hg : g.method = m) {As : List Value} (hlen : As.length = meth'.sig.parameters.length) (hstk : g.stack = As.reverse ++ .ref a :: rest) (hdg : decode c.code g.pc = .ok (.invokevirtual 32, 3)) :
    ∃ vm', Stand p l e R s m args below meth c (T.setVm vm') locs cells slots ∧ ∀ target, (∀ acts, Steps p.tables e below (doInvoke e ((T.setVm vm').setTop { g with stack := rest }) acts m' (.ref a :: As).toArray).1 target) → Steps p.tables e below (T.setTop g) target := by
  have hpl : e.platform.magicAccessors = ({} : Platform).magicAccessors := by rw [X.admits.platform]
  have hsame : (Cond.sameMethod "LeftGloves$Mitten" "LeftGloves$Hears" "half" "(I)I").before args s = true := va_Nw.use rfl hF.2.1
  have hlink : (Cond.methodLink "LeftGloves$Mitten" 32 ⟨"LeftGloves$Mitten", "half", "(I)I"⟩).before args s = true := va_Nw.use rfl hF.1
  obtain ⟨cn, ck, r1, hcn, hck, hni, hf, hn1⟩ := Cond.sameMethod_found hsame
  cases hn.symm.trans hn1
  obtain ⟨c2, r2, m2, rm2, l1, l2, l3, l4, l5, ⟨mk, l6, l7⟩, l8⟩ := hL
  cases hC.symm.trans l1
  cases hf.symm.trans l2
  cases hn.symm.trans l3
  cases hm'.symm.trans l4
  obtain ⟨ci, hl, hright⟩ := Cond.methodLink_specUp hown hcn hck hni hf hlink e.platform hpl (by rw [X.admits.platform])
  have hE : s.MethodEntryUp e T.vm m.cls 32 cn m' ci := State.methodEntryUp X.warmed hl hright
  obtain ⟨kr, hkr, hnr⟩ := className_of_methodNamed hn
  obtain ⟨dk, cfile, nt, _, _, _, _, _, hd, hcf, hcp, -⟩ := hl.here
  have al := hE.warmed.alike
  obtain ⟨dk₂, hdk₂, hres⟩ := hE.classReady
  obtain ⟨dk₃, hdk₃, hed⟩ := al.2.2 _ _ hd
  cases hdk₂.symm.trans hdk₃
  obtain ⟨kr₂, hkr₂, her⟩ := al.2.2 _ _ hkr
  obtain ⟨ck₂, hck₂, hec⟩ := al.2.2 _ _ hck
  obtain ⟨mk₂, hmk₂, hem⟩ := al.2.2 _ _ l6
  refine ⟨T.vm.calledUp m.cls ci 32 cn m', X.noted hE.warmed, fun target hrest => ?_⟩
  subst hg
  jvm_step X.here [hexec, hdg, Op.invokevirtual.wp_coldUp (e := e) (s := T) (s₀ := s) (f := g) X.here.top X.warmed hE hd hcf (Or.inl hcp) hck hni,
    hf_wp (e := e) (T := T.setVm (T.vm.calledUp g.method.cls ci 32 cn m')) (f := g) (r := m') (m' := m') (c' := cn) (k := kr₂) (k' := ck₂) (mk := mk₂) (rmeth := meth') (meth' := meth') (a := a) (As := As) (rest := rest) (cell := cell)
      X.here.top ⟨dk₂, cfile, ci, nt, hdk₂, by rw [hed]; exact hcf, Or.inl hcp, dk₂, hdk₂, hres⟩ hck₂ (by rw [hec]; exact hni) hE.ready hkr₂
      (by show (T.vm.calledUp g.method.cls ci 32 cn m').method? m' = some meth'; rw [al.method?]; exact hm')
      (by rw [her]; show signaturePolymorphic kr meth' = false; simp [signaturePolymorphic, hnr]) hst hlen hstk hcell hobj
      (by show selectMethod e.platform (T.vm.calledUp g.method.cls ci 32 cn m') cell.cls m' = .method m'; rw [al.selectMethod, Launch.admits_selectMethod X.admits]; exact l5)
      (by show (T.vm.calledUp g.method.cls ci 32 cn m').method? m' = some meth'; rw [al.method?]; exact hm') hab hmk₂ (by rw [hem]; exact l7) (by show hfN (T.vm.calledUp g.method.cls ci 32 cn m') cell.cls _ _ m'; unfold hfN; rw [hf_near al]; exact l8)]
  exact hrest
theorem hf_body {b : Nat} {v : Int32} {s0 : State} {mk : MethodId} {bel : List Frame} {methM : Method} {cM : Code} (hexec : p.tables.exec = Jvm.exec) (hbM : cM.code = cX14_half) (hr : methM.sig.returnType = some .int) (hlocks : methM.locks = false) :
    W p l e ({ frames := 0, cells := 0, slots := 0, locals := 0 } : Room) s0 mk ([.ref b, .int v] : List Value).toArray bel methM cM s0.heap [] 0 0 (MQ bel (rQ (.int (v / 2))) ([.ref b, .int v] : List Value).toArray s0 0 0 nof) (entryFrame mk ([.ref b, .int v] : List Value).toArray 2) := by
  have hl := lv_entry [.ref b, .int v] (n := 2) (Nat.le_of_ble_eq_true rfl)
  rw [lg_entry_eq]
  generalize (lg_sl [Value.ref b, Value.int v] ++ List.replicate (2 - (lg_sl [Value.ref b, Value.int v]).length) Slot.unset).toArray = ls at hl ⊢
  have hl : lv_has ls 2 [(0, .ref b), (1, .int v)] := hl
  refine lv_iload_n hexec hbM dX14_half_0 rfl (lv_at hl 1 rfl) ?_
  refine lv_iconst (v := 2) hexec hbM dX14_half_1 (by decide) ?_
  refine lv_idiv hexec hbM dX14_half_2 (by decide) ?_
  exact W.iret hexec hbM hr (fun t ht _ => ⟨rfl, ht⟩) (fun q h => by cases h) dX14_half_3
theorem hf_core {T : State} (X : Stand p l e R s m args below meth c T locs cells slots) (hexec : p.tables.exec = Jvm.exec) (hR : 1 ≤ R.frames ∧ 21 ≤ R.locals) (hcs : cells ≤ R.cells ∧ slots ≤ R.slots) {mk : MethodId} {methM : Method} {cM : Code} (hnamed : s.methodNamed? ⟨"LeftGloves$Hears", "half", "(I)I"⟩ = some mk) (hmM : s.vm.method? mk = some methM) (hcM : methM.code = some cM) (hlM : cM.maxLocals = 2) (hbM : cM.code = cX14_half) (hrM : methM.sig.returnType = some .int) (hlk : methM.locks = false)
    {g : JFrame} (hg : g.method = m) (hsize : g.locals.size = c.maxLocals) {ig : Instr} (hdg : decode c.code g.pc = .ok (ig, 3)) (hW : 2 * g.monitorRoom + (g.stack.map fun v => v.category).sum ≤ 8) {b : Nat} {v : Int32} (acts : List Action) :
    ∃ T' : State, Stand p l e R s m args below meth c T' locs cells slots ∧ T'.heap = T.heap ∧ Steps p.tables e below (doInvoke e (T.setTop g) acts mk ([.ref b, .int v] : List Value).toArray).1 (T'.setTop { g with pc := g.pc + 3, stack := .int (v / 2) :: g.stack }) := by
  have h : At T g.method c below := by rw [hg]; exact X.here
  have hmY : T.vm.method? mk = some methM := by rw [X.warmed.alike.method?]; exact hmM
  have hnY : T.methodNamed? ⟨"LeftGloves$Hears", "half", "(I)I"⟩ = some mk := X.named hnamed
  have hfT : (T.setTop g).frames = .java g :: below := by rw [State.frames_setTop' g h.top, X.tail]
  have hf : (T.calling g mk ([.ref b, .int v] : List Value).toArray).frames = .invoking mk ([.ref b, .int v] : List Value).toArray :: .java g :: below := by rw [State.frames_calling h.top g mk _, X.tail]
  have hroom := X.room_calling (g := g) (R' := { frames := 0, cells := 0, slots := 0, locals := 0 }) (args' := ([.ref b, .int v] : List Value).toArray) hsize hmY hcM hR.1 (by rw [hlM]; show _ + (2 + 11) + 0 ≤ _; omega) hcs.1 hcs.2
  have hcode : (T.calling g mk ([.ref b, .int v] : List Value).toArray).code? g.method = some c := by
    have := h.code
    rw [State.code?_eq] at this ⊢
    simpa [State.calling, State.pushFrame, State.setFrames] using this
  have hears : (T.calling g mk ([.ref b, .int v] : List Value).toArray).hears mk (.java g :: below) = true := by simp [State.hears, hcode, hdg, Except.toOption]
  have hcur := State.cur_lt_of_frames hf
  have hm1 : (T.calling g mk ([.ref b, .int v] : List Value).toArray).vm.method? mk = some methM := hmY
  have hf1 : ((T.calling g mk ([.ref b, .int v] : List Value).toArray).setFrames (.java (entryFrame mk ([.ref b, .int v] : List Value).toArray 2) :: .java g :: below)).frames = .java (entryFrame mk ([.ref b, .int v] : List Value).toArray 2) :: .java g :: below := State.frames_setFrames _ hcur
  have ht1 := State.topJava?_of_frames hf1
  have hplain : ((T.calling g mk ([.ref b, .int v] : List Value).toArray).setFrames (.java (entryFrame mk ([.ref b, .int v] : List Value).toArray 2) :: .java g :: below)).plainMethod mk := State.plainMethod.of_named (s := T.calling g mk ([.ref b, .int v] : List Value).toArray) (x := ⟨"LeftGloves$Hears", "half", "(I)I"⟩) (by decide) hnY hm1
  have hAt : At ((T.calling g mk ([.ref b, .int v] : List Value).toArray).setFrames (.java (entryFrame mk ([.ref b, .int v] : List Value).toArray 2) :: .java g :: below)) mk cM (.java g :: below) :=
    ⟨by rw [ht1]; rfl, ⟨[], by rw [hf1]; rfl⟩, h.running, by simpa [State.calling] using h.runnable, by simpa [State.calling] using h.alone, by rw [State.code?_eq]; simp [State.setFrames, hm1, hcM], hplain⟩
  obtain ⟨t0, ht0, -⟩ := State.frames_cons hf
  have XM : Stand p l e ({ frames := 0, cells := 0, slots := 0, locals := 0 } : Room) (T.calling g mk ([.ref b, .int v] : List Value).toArray) mk ([.ref b, .int v] : List Value).toArray (.java g :: below) methM cM ((T.calling g mk ([.ref b, .int v] : List Value).toArray).setFrames (.java (entryFrame mk ([.ref b, .int v] : List Value).toArray 2) :: .java g :: below)) [] 0 0 :=
    ⟨X.admits, X.cas, X.clock, hf, hroom, hears, hm1, hcM, hAt, by rw [hf1]; rfl, State.WarmedH.refl _, by rw [State.stackLimits_setFrames], by rw [State.stackBytes_setFrames], (State.sameButNew.refl _ ht0).setFrames _ hcur⟩
  obtain ⟨t, hst, o, hrun, hend, ⟨ho, hheap⟩, L, ⟨_, hwm, hsame⟩, hL⟩ := hf_body (b := b) (v := v) (s0 := T.calling g mk ([.ref b, .int v] : List Value).toArray) hexec hbM hrM hlk _ (by rfl) XM
  subst ho
  have hL0 : L = [] := by
    cases L with
    | nil => rfl
    | cons q L => exact absurd (hL q List.mem_cons_self) (fun h => h)
  subst hL0
  obtain ⟨T', X', -, -, ht⟩ := X.outOf hg hdg hend hwm hsame
  subst ht
  rw [List.append_nil] at X'
  refine ⟨T', X', hheap, ?_⟩
  have hent := doInvoke_enter (e := e) (g := g) h.top acts (m := mk) (args := ([.ref b, .int v] : List Value).toArray) hmY hcM hlk (X.notFull hsize hR.1 (by rw [hlM]; omega))
  rw [hent, hlM]
  have e2 : (T.setTop g).pushFrame (.java (entryFrame mk ([.ref b, .int v] : List Value).toArray 2)) = (T.calling g mk ([.ref b, .int v] : List Value).toArray).setFrames (.java (entryFrame mk ([.ref b, .int v] : List Value).toArray 2) :: .java g :: below) := by
    rw [State.calling, State.pushFrame, State.pushFrame, State.setFrames_setFrames, hfT]
  rw [e2]
  exact Steps.weaken (mid := [.java g]) hst
variable {cc : ByteArray} {nL : Nat} {b : Nat} {v : Int32}
theorem k_HF (S : CallFix p m c cc nL s args lw_all RX8) (hF : HF s) {C : String} (hL : hfL C s) (hR : 1 ≤ R.frames ∧ 21 ≤ R.locals) (hr : ∃ cellB : Cell, H[b]? = some cellB ∧ cellB.vm.isStatics = false ∧ s.vm.findClass C = some cellB.cls)
    (hsize : ls.size = nL) (hW : (rest.map fun v => v.category).sum ≤ 8) (hdg : decode cc pc = .ok (.invokevirtual 32, 3)) (hf : cells ≤ R.cells ∧ slots ≤ R.slots) :
    va_Run p l e R s m args below meth c H locs cells slots 0 0 (F0 m pc ls (.int v :: .ref b :: rest)) rest (rQ (.int (v / 2)) ([.ref b, .int v] : List Value).toArray) nof := by
  obtain ⟨hx, hb, hml, hown, hts⟩ := S
  obtain ⟨cellB, hcB, hoB, hclB⟩ := hr
  obtain ⟨mk, methM, hnamed, hmethM, hstM, habM⟩ := Cond.instanceMethod_spec (hts _ q645)
  obtain ⟨methM', cM, hmethM', hcM, hbM, hlM, hrM, hlkM, -, hsigM⟩ := Cond.code_spec hnamed (hts _ q647)
  cases hmethM.symm.trans hmethM'
  have hpar : (parseMethodDescriptor (MethodName.desc ⟨"LeftGloves$Hears", "half", "(I)I"⟩)).map (fun d => d.parameters.length) = some 1 := by decide +kernel
  intro T hT X
  obtain ⟨vm₁, X₁, hstep₁⟩ := hf_call X hx hown hF hL (a := b) (cell := cellB) (by rw [hT]; exact hcB) (fun z h => by rw [h] at hoB; cases hoB) hclB hnamed hmethM hstM habM (g := F0 m pc ls (.int v :: .ref b :: rest)) rfl (As := [.int v]) (rest := rest) (by rw [hsigM] at hpar; exact (Option.some.inj hpar).symm) rfl (by rw [hb]; exact hdg)
  obtain ⟨T', X', hh, hst⟩ := hf_core (b := b) (v := v) X₁ hx hR hf hnamed hmethM hcM hlM hbM hrM hlkM (g := F0 m pc ls rest) rfl (hsize.trans hml.symm) (by rw [hb]; exact hdg) (lv_room (m := m) (pc := pc) (ls := ls) (rest := rest) hW) []
  exact ⟨some (.int (v / 2)), T.setVm vm₁, T', T', [], hT, (by rw [List.append_nil]; exact X'), (fun q h => by cases h), rfl, rfl, ⟨rfl, hh⟩, fun target h => hstep₁ _ (fun acts => by rw [doInvoke_state]; exact hst.trans h)⟩
end HALF
theorem k_X9_hushes_3 {l : Launch} {D : va_G} {L : Nat → Nat} {A : Nat → Prop} (x : cst) (k : Nat) (hk : k < 8) : Met l yX9_hushes (ws_ yX9_hushes cX9_hushes 1 (some .int)) ({ frames := 1, cells := 0, slots := 0, locals := 20 } : Room) (va_Pc [.ref (L (123 + (8 * 3 + k)))] (pI D (cfC D L x) A)) (rQ (.int 1)) 0 0 nof := by
  refine met_I (by decide) rfl (Nat.le_of_ble_eq_true rfl) ?_
  intro p e s m below meth c ls hx hb hr hml hown hts hlocks hl hI hK
  have F : CallFix p m c cX9_hushes 1 s _ lw_all RX9 := ⟨hx, hb, hml, hown, hts⟩
  have hl : lv_has ls 1 [(0, .ref (L (123 + (8 * 3 + k))))] := hl
  refine lv_aload_n hx hb dX9_hushes_0 rfl (lv_at hl 0 rfl) ?_
  refine c_r (k_SPI (As := []) (rest := []) (x := ⟨"LeftGloves$Mitten", "hushes", "()I"⟩) (owner := "LeftGloves$Glove") (ci := 9) (q := (RX9, TX9, 4)) rfl F (k_X6_hushes_3 x k hk) ⟨rfl, rfl⟩ ⟨Nat.le_of_ble_eq_true rfl, Nat.le_of_ble_eq_true rfl⟩ q503 q504 q350 q337 q487 q100 q517 rfl (by decide) (by decide +kernel) hI hK (cf_gk (κ := 3) (by decide) hk) rfl hl.1 rfl (Nat.le_of_ble_eq_true rfl) dX9_hushes_1 ⟨Nat.le_of_ble_eq_true rfl, Nat.le_of_ble_eq_true rfl⟩) ?_
  refine lv_iconst (v := 1) hx hb dX9_hushes_4 (by decide) ?_
  refine lv_iadd hx hb dX9_hushes_5 ?_
  exact W.iret hx hb hr (fun t ht _ => ⟨rI (by decide), ht⟩) (fun q h => by cases h) dX9_hushes_6
theorem k_X8_keeps_2 {l : Launch} {D : va_G} {L : Nat → Nat} {A : Nat → Prop} (x : cst) (k : Nat) (hk : k < 8) : Met l yX8_keeps (ws_ yX8_keeps cX8_keeps 1 (some .int)) ({ frames := 1, cells := 0, slots := 0, locals := 21 } : Room) (va_Pc [.ref (L (123 + (8 * 2 + k)))] (pI D (cfC D L x) A)) (rQ (.int 3)) 0 0 nof := by
  refine met_I (by decide) rfl (Nat.le_of_ble_eq_true rfl) ?_
  intro p e s m below meth c ls hx hb hr hml hown hts hlocks hl hI hK
  have F : CallFix p m c cX8_keeps 1 s _ lw_all RX8 := ⟨hx, hb, hml, hown, hts⟩
  have hl : lv_has ls 1 [(0, .ref (L (123 + (8 * 2 + k))))] := hl
  refine lv_aload_n hx hb dX8_keeps_0 rfl (lv_at hl 0 rfl) ?_
  refine lv_aload_n hx hb dX8_keeps_1 rfl (lv_at hl 0 rfl) ?_
  refine c_r (k_SUP (As := []) (rest := [.ref (L (123 + (8 * 2 + k)))]) (ci := 8) (q := (RX8, TX8, 3)) rfl F (k_X6_keeps_2 x k hk) (va_cwSU 0 hts (lw_SU q640 q636 q337 q634 q100 q661) rfl rfl rfl (by decide +kernel) ⟨Nat.le_of_ble_eq_true rfl, Nat.le_of_ble_eq_true rfl⟩) hI hK (cf_gk (κ := 2) (by decide) hk) rfl hl.1 rfl (Nat.le_of_ble_eq_true rfl) dX8_keeps_2 ⟨Nat.le_of_ble_eq_true rfl, Nat.le_of_ble_eq_true rfl⟩) ?_
  refine c_r (k_HF (v := 6) (rest := []) F hK.2.2.1.2 (C := "LeftGloves$Mitten") hK.2.2.1.2.2.2.1 ⟨Nat.le_of_ble_eq_true rfl, Nat.le_of_ble_eq_true rfl⟩ (hw.recv hI hK (cf_gk (κ := 2) (by decide) hk) (q := (RX8, TX8, 3)) rfl) hl.1 (Nat.le_of_ble_eq_true rfl) dX8_keeps_5 ⟨Nat.le_of_ble_eq_true rfl, Nat.le_of_ble_eq_true rfl⟩) ?_
  exact W.iret hx hb hr (fun t ht _ => ⟨rI (by decide), ht⟩) (fun q h => by cases h) dX8_keeps_8
theorem k_X8_keeps_3 {l : Launch} {D : va_G} {L : Nat → Nat} {A : Nat → Prop} (x : cst) (k : Nat) (hk : k < 8) : Met l yX8_keeps (ws_ yX8_keeps cX8_keeps 1 (some .int)) ({ frames := 1, cells := 0, slots := 0, locals := 21 } : Room) (va_Pc [.ref (L (123 + (8 * 3 + k)))] (pI D (cfC D L x) A)) (rQ (.int 3)) 0 0 nof := by
  refine met_I (by decide) rfl (Nat.le_of_ble_eq_true rfl) ?_
  intro p e s m below meth c ls hx hb hr hml hown hts hlocks hl hI hK
  have F : CallFix p m c cX8_keeps 1 s _ lw_all RX8 := ⟨hx, hb, hml, hown, hts⟩
  have hl : lv_has ls 1 [(0, .ref (L (123 + (8 * 3 + k))))] := hl
  refine lv_aload_n hx hb dX8_keeps_0 rfl (lv_at hl 0 rfl) ?_
  refine lv_aload_n hx hb dX8_keeps_1 rfl (lv_at hl 0 rfl) ?_
  refine c_r (k_SUP (As := []) (rest := [.ref (L (123 + (8 * 3 + k)))]) (ci := 9) (q := (RX9, TX9, 4)) rfl F (k_X6_keeps_3 x k hk) (va_cwSU 0 hts (lw_SU q640 q636 q337 q634 q100 q661) rfl rfl rfl (by decide +kernel) ⟨Nat.le_of_ble_eq_true rfl, Nat.le_of_ble_eq_true rfl⟩) hI hK (cf_gk (κ := 3) (by decide) hk) rfl hl.1 rfl (Nat.le_of_ble_eq_true rfl) dX8_keeps_2 ⟨Nat.le_of_ble_eq_true rfl, Nat.le_of_ble_eq_true rfl⟩) ?_
  refine c_r (k_HF (v := 6) (rest := []) F hK.2.2.1.2 (C := "LeftGloves$Lady") hK.2.2.1.2.2.2.2.1 ⟨Nat.le_of_ble_eq_true rfl, Nat.le_of_ble_eq_true rfl⟩ (hw.recv hI hK (cf_gk (κ := 3) (by decide) hk) (q := (RX9, TX9, 4)) rfl) hl.1 (Nat.le_of_ble_eq_true rfl) dX8_keeps_5 ⟨Nat.le_of_ble_eq_true rfl, Nat.le_of_ble_eq_true rfl⟩) ?_
  exact W.iret hx hb hr (fun t ht _ => ⟨rI (by decide), ht⟩) (fun q h => by cases h) dX8_keeps_8
theorem k_X8_keeps_4 {l : Launch} {D : va_G} {L : Nat → Nat} {A : Nat → Prop} (x : cst) (k : Nat) (hk : k < 8) : Met l yX8_keeps (ws_ yX8_keeps cX8_keeps 1 (some .int)) ({ frames := 1, cells := 0, slots := 0, locals := 21 } : Room) (va_Pc [.ref (L (123 + (8 * 4 + k)))] (pI D (cfC D L x) A)) (rQ (.int 3)) 0 0 nof := by
  refine met_I (by decide) rfl (Nat.le_of_ble_eq_true rfl) ?_
  intro p e s m below meth c ls hx hb hr hml hown hts hlocks hl hI hK
  have F : CallFix p m c cX8_keeps 1 s _ lw_all RX8 := ⟨hx, hb, hml, hown, hts⟩
  have hl : lv_has ls 1 [(0, .ref (L (123 + (8 * 4 + k))))] := hl
  refine lv_aload_n hx hb dX8_keeps_0 rfl (lv_at hl 0 rfl) ?_
  refine lv_aload_n hx hb dX8_keeps_1 rfl (lv_at hl 0 rfl) ?_
  refine c_r (k_SUP (As := []) (rest := [.ref (L (123 + (8 * 4 + k)))]) (ci := 10) (q := (RX10, TX10, 5)) rfl F (k_X6_keeps_4 x k hk) (va_cwSU 0 hts (lw_SU q640 q636 q337 q634 q100 q661) rfl rfl rfl (by decide +kernel) ⟨Nat.le_of_ble_eq_true rfl, Nat.le_of_ble_eq_true rfl⟩) hI hK (cf_gk (κ := 4) (by decide) hk) rfl hl.1 rfl (Nat.le_of_ble_eq_true rfl) dX8_keeps_2 ⟨Nat.le_of_ble_eq_true rfl, Nat.le_of_ble_eq_true rfl⟩) ?_
  refine c_r (k_HF (v := 6) (rest := []) F hK.2.2.1.2 (C := "LeftGloves$Burnt") hK.2.2.1.2.2.2.2.2 ⟨Nat.le_of_ble_eq_true rfl, Nat.le_of_ble_eq_true rfl⟩ (hw.recv hI hK (cf_gk (κ := 4) (by decide) hk) (q := (RX10, TX10, 5)) rfl) hl.1 (Nat.le_of_ble_eq_true rfl) dX8_keeps_5 ⟨Nat.le_of_ble_eq_true rfl, Nat.le_of_ble_eq_true rfl⟩) ?_
  exact W.iret hx hb hr (fun t ht _ => ⟨rI (by decide), ht⟩) (fun q h => by cases h) dX8_keeps_8
theorem run_needs {p : Program} {l : Launch} {e : Env} {R : Room} {s : State} {m : MethodId} {args : Array Value} {below : List Frame} {meth : Method} {c : Code} {H : Heap} {locs : List Loc} {cells slots pc nL : Nat} {ls : Array Slot} {rest : List Value} {A : Nat → Prop} {D : va_G} {L : Nat → Nat} {cc : ByteArray} {x : cst} {κ k : Nat} (F : CallFix p m c cc nL s args lw_all RX0) (hκ : κ < 7) (hk : k < 8) (hI : hw D (cfC D L x) A H) (hK : KK D s) (hO : wOk (x.1 0)) (hsize : ls.size = nL) (hW : (rest.map fun v => v.category).sum ≤ 8) (hdg : decode cc pc = .ok (.invokevirtual 158, 3)) (hf : cells ≤ R.cells ∧ slots ≤ R.slots) (hR : 4 ≤ R.frames ∧ 82 ≤ R.locals) :
    va_Run p l e R s m args below meth c H locs cells slots 0 0 (F0 m pc ls (.ref (L (123 + (8 * κ + k))) :: rest)) rest (rQ (.int (ndI (x.1 0) κ k)) (Value.ref (L (123 + (8 * κ + k))) :: []).toArray) nof := by
  have hts := F.2.2.2.2
  match κ, hκ with
  | 0, _ => exact k_V (As := []) (rest := rest) F (k_X6_needs_0 x k hk) (cwV 0 hts (lw_V q576 q577 q578 q100 q610) rfl rfl rfl (by decide +kernel) ⟨Nat.le_trans (Nat.le_of_ble_eq_true rfl) hR.1, Nat.le_trans (Nat.le_of_ble_eq_true rfl) hR.2⟩) hI hK (hw.recv hI hK (cf_gk (κ := 0) (by decide) hk) (q := (RX6, TX6, 2)) rfl) rfl hsize rfl hW hdg hf
  | 1, _ => exact k_U (As := []) (rest := rest) F (k_X7_needs_1 x k hk) (va_cwO (owner := "LeftGloves$Glove") 0 hts (lw_O q576 q579 q577 q597 q591 q101 q592) rfl rfl rfl q610 (by decide +kernel) ⟨Nat.le_trans (Nat.le_of_ble_eq_true rfl) hR.1, Nat.le_trans (Nat.le_of_ble_eq_true rfl) hR.2⟩) hI hK (hw.recv hI hK (cf_gk (κ := 1) (by decide) hk) (q := (RX7, TX7, 3)) rfl) rfl hsize rfl hW hdg hf
  | 2, _ => exact k_U (As := []) (rest := rest) F (k_X8_needs_2 x k hk) (va_cwO (owner := "LeftGloves$Glove") 0 hts (lw_O q576 q579 q577 q606 q602 q102 q603) rfl rfl rfl q610 (by decide +kernel) ⟨Nat.le_trans (Nat.le_of_ble_eq_true rfl) hR.1, Nat.le_trans (Nat.le_of_ble_eq_true rfl) hR.2⟩) hI hK (hw.recv hI hK (cf_gk (κ := 2) (by decide) hk) (q := (RX8, TX8, 3)) rfl) rfl hsize rfl hW hdg hf
  | 3, _ => exact k_U (As := []) (rest := rest) F (k_X9_needs_3 x k hk) (va_cwO (owner := "LeftGloves$Glove") 0 hts (lw_O q576 q579 q577 q598 q599 q103 q600) rfl rfl rfl q610 (by decide +kernel) ⟨Nat.le_trans (Nat.le_of_ble_eq_true rfl) hR.1, Nat.le_trans (Nat.le_of_ble_eq_true rfl) hR.2⟩) hI hK (hw.recv hI hK (cf_gk (κ := 3) (by decide) hk) (q := (RX9, TX9, 4)) rfl) rfl hsize rfl hW hdg hf
  | 4, _ => exact k_U (As := []) (rest := rest) F (k_X10_needs_4 x k hk) (va_cwO (owner := "LeftGloves$Glove") 0 hts (lw_O q576 q579 q577 q580 q581 q104 q582) rfl rfl rfl q610 (by decide +kernel) ⟨Nat.le_trans (Nat.le_of_ble_eq_true rfl) hR.1, Nat.le_trans (Nat.le_of_ble_eq_true rfl) hR.2⟩) hI hK (hw.recv hI hK (cf_gk (κ := 4) (by decide) hk) (q := (RX10, TX10, 5)) rfl) rfl hsize rfl hW hdg hf
  | 5, _ => exact k_U (As := []) (rest := rest) F (k_X11_needs_5 x k hk) (va_cwO (owner := "LeftGloves$Glove") 0 hts (lw_O q576 q579 q577 q607 q608 q105 q609) rfl rfl rfl q610 (by decide +kernel) ⟨Nat.le_trans (Nat.le_of_ble_eq_true rfl) hR.1, Nat.le_trans (Nat.le_of_ble_eq_true rfl) hR.2⟩) hI hK (hw.recv hI hK (cf_gk (κ := 5) (by decide) hk) (q := (RX11, TX11, 3)) rfl) rfl hsize rfl hW hdg hf
  | 6, _ => exact k_U (As := []) (rest := rest) F (k_X12_needs_6 x k hk (hO)) (va_cwO (owner := "LeftGloves$Glove") 0 hts (lw_O q576 q579 q577 q583 q584 q106 q585) rfl rfl rfl q610 (by decide +kernel) ⟨Nat.le_trans (Nat.le_of_ble_eq_true rfl) hR.1, Nat.le_trans (Nat.le_of_ble_eq_true rfl) hR.2⟩) hI hK (hw.recv hI hK (cf_gk (κ := 6) (by decide) hk) (q := (RX12, TX12, 4)) rfl) rfl hsize rfl hW hdg hf
theorem run_hushes {p : Program} {l : Launch} {e : Env} {R : Room} {s : State} {m : MethodId} {args : Array Value} {below : List Frame} {meth : Method} {c : Code} {H : Heap} {locs : List Loc} {cells slots pc nL : Nat} {ls : Array Slot} {rest : List Value} {A : Nat → Prop} {D : va_G} {L : Nat → Nat} {cc : ByteArray} {x : cst} {κ k : Nat} (F : CallFix p m c cc nL s args lw_all RX0) (hκ : κ < 7) (hk : k < 8) (hI : hw D (cfC D L x) A H) (hK : KK D s) (hsize : ls.size = nL) (hW : (rest.map fun v => v.category).sum ≤ 8) (hdg : decode cc pc = .ok (.invokevirtual 142, 3)) (hf : cells ≤ R.cells ∧ slots ≤ R.slots) (hR : 2 ≤ R.frames ∧ 41 ≤ R.locals) :
    va_Run p l e R s m args below meth c H locs cells slots 0 0 (F0 m pc ls (.ref (L (123 + (8 * κ + k))) :: rest)) rest (rQ (.int (huI (x.1 0) κ k)) (Value.ref (L (123 + (8 * κ + k))) :: []).toArray) nof := by
  have hts := F.2.2.2.2
  match κ, hκ with
  | 0, _ => exact k_V (As := []) (rest := rest) F (k_X6_hushes_0 x k hk) (cwV 0 hts (lw_V q486 q487 q488 q100 q517) rfl rfl rfl (by decide +kernel) ⟨Nat.le_trans (Nat.le_of_ble_eq_true rfl) hR.1, Nat.le_trans (Nat.le_of_ble_eq_true rfl) hR.2⟩) hI hK (hw.recv hI hK (cf_gk (κ := 0) (by decide) hk) (q := (RX6, TX6, 2)) rfl) rfl hsize rfl hW hdg hf
  | 1, _ => exact k_U (As := []) (rest := rest) F (k_X7_hushes_1 x k hk) (va_cwO (owner := "LeftGloves$Glove") 0 hts (lw_O q486 q489 q487 q499 q497 q101 q498) rfl rfl rfl q517 (by decide +kernel) ⟨Nat.le_trans (Nat.le_of_ble_eq_true rfl) hR.1, Nat.le_trans (Nat.le_of_ble_eq_true rfl) hR.2⟩) hI hK (hw.recv hI hK (cf_gk (κ := 1) (by decide) hk) (q := (RX7, TX7, 3)) rfl) rfl hsize rfl hW hdg hf
  | 2, _ => exact k_U (As := []) (rest := rest) F (k_X6_hushes_2 x k hk) (va_cwU (owner := "LeftGloves$Glove") 0 hts (lw_U q486 q489 q506 q487 q100 q517) rfl rfl rfl rfl (by decide +kernel) ⟨Nat.le_trans (Nat.le_of_ble_eq_true rfl) hR.1, Nat.le_trans (Nat.le_of_ble_eq_true rfl) hR.2⟩) hI hK (hw.recv hI hK (cf_gk (κ := 2) (by decide) hk) (q := (RX8, TX8, 3)) rfl) rfl hsize rfl hW hdg hf
  | 3, _ => exact k_U (As := []) (rest := rest) F (k_X9_hushes_3 x k hk) (va_cwO (owner := "LeftGloves$Glove") 0 hts (lw_O q486 q489 q487 q500 q501 q103 q502) rfl rfl rfl q517 (by decide +kernel) ⟨Nat.le_trans (Nat.le_of_ble_eq_true rfl) hR.1, Nat.le_trans (Nat.le_of_ble_eq_true rfl) hR.2⟩) hI hK (hw.recv hI hK (cf_gk (κ := 3) (by decide) hk) (q := (RX9, TX9, 4)) rfl) rfl hsize rfl hW hdg hf
  | 4, _ => exact k_U (As := []) (rest := rest) F (k_X10_hushes_4 x k hk) (va_cwO (owner := "LeftGloves$Glove") 0 hts (lw_O q486 q489 q487 q490 q491 q104 q492) rfl rfl rfl q517 (by decide +kernel) ⟨Nat.le_trans (Nat.le_of_ble_eq_true rfl) hR.1, Nat.le_trans (Nat.le_of_ble_eq_true rfl) hR.2⟩) hI hK (hw.recv hI hK (cf_gk (κ := 4) (by decide) hk) (q := (RX10, TX10, 5)) rfl) rfl hsize rfl hW hdg hf
  | 5, _ => exact k_U (As := []) (rest := rest) F (k_X11_hushes_5 x k hk) (va_cwO (owner := "LeftGloves$Glove") 0 hts (lw_O q486 q489 q487 q507 q508 q105 q509) rfl rfl rfl q517 (by decide +kernel) ⟨Nat.le_trans (Nat.le_of_ble_eq_true rfl) hR.1, Nat.le_trans (Nat.le_of_ble_eq_true rfl) hR.2⟩) hI hK (hw.recv hI hK (cf_gk (κ := 5) (by decide) hk) (q := (RX11, TX11, 3)) rfl) rfl hsize rfl hW hdg hf
  | 6, _ => exact k_U (As := []) (rest := rest) F (k_X12_hushes_6 x k hk) (va_cwO (owner := "LeftGloves$Glove") 0 hts (lw_O q486 q489 q487 q493 q494 q106 q495) rfl rfl rfl q517 (by decide +kernel) ⟨Nat.le_trans (Nat.le_of_ble_eq_true rfl) hR.1, Nat.le_trans (Nat.le_of_ble_eq_true rfl) hR.2⟩) hI hK (hw.recv hI hK (cf_gk (κ := 6) (by decide) hk) (q := (RX12, TX12, 4)) rfl) rfl hsize rfl hW hdg hf
theorem run_stays {p : Program} {l : Launch} {e : Env} {R : Room} {s : State} {m : MethodId} {args : Array Value} {below : List Frame} {meth : Method} {c : Code} {H : Heap} {locs : List Loc} {cells slots pc nL : Nat} {ls : Array Slot} {rest : List Value} {A : Nat → Prop} {D : va_G} {L : Nat → Nat} {cc : ByteArray} {x : cst} {κ k : Nat} (F : CallFix p m c cc nL s args lw_all RX0) (hκ : κ < 7) (hk : k < 8) (hI : hw D (cfC D L x) A H) (hK : KK D s) (hsize : ls.size = nL) (hW : (rest.map fun v => v.category).sum ≤ 8) (hdg : decode cc pc = .ok (.invokevirtual 177, 3)) (hf : cells ≤ R.cells ∧ slots ≤ R.slots) (hR : 2 ≤ R.frames ∧ 40 ≤ R.locals) :
    va_Run p l e R s m args below meth c H locs cells slots 0 0 (F0 m pc ls (.ref (L (123 + (8 * κ + k))) :: rest)) rest (rQ (.int (styI κ)) (Value.ref (L (123 + (8 * κ + k))) :: []).toArray) nof := by
  have hts := F.2.2.2.2
  match κ, hκ with
  | 0, _ => exact k_V (As := []) (rest := rest) F (k_X6_stays_0 x k hk) (cwV 0 hts (lw_V q612 q613 q614 q100 q632) rfl rfl rfl (by decide +kernel) ⟨Nat.le_trans (Nat.le_of_ble_eq_true rfl) hR.1, Nat.le_trans (Nat.le_of_ble_eq_true rfl) hR.2⟩) hI hK (hw.recv hI hK (cf_gk (κ := 0) (by decide) hk) (q := (RX6, TX6, 2)) rfl) rfl hsize rfl hW hdg hf
  | 1, _ => exact k_U (As := []) (rest := rest) F (k_X7_stays_1 x k hk) (va_cwO (owner := "LeftGloves$Glove") 0 hts (lw_O q612 q615 q613 q623 q620 q101 q621) rfl rfl rfl q632 (by decide +kernel) ⟨Nat.le_trans (Nat.le_of_ble_eq_true rfl) hR.1, Nat.le_trans (Nat.le_of_ble_eq_true rfl) hR.2⟩) hI hK (hw.recv hI hK (cf_gk (κ := 1) (by decide) hk) (q := (RX7, TX7, 3)) rfl) rfl hsize rfl hW hdg hf
  | 2, _ => exact k_U (As := []) (rest := rest) F (k_X8_stays_2 x k hk) (va_cwO (owner := "LeftGloves$Glove") 0 hts (lw_O q612 q615 q613 q628 q625 q102 q626) rfl rfl rfl q632 (by decide +kernel) ⟨Nat.le_trans (Nat.le_of_ble_eq_true rfl) hR.1, Nat.le_trans (Nat.le_of_ble_eq_true rfl) hR.2⟩) hI hK (hw.recv hI hK (cf_gk (κ := 2) (by decide) hk) (q := (RX8, TX8, 3)) rfl) rfl hsize rfl hW hdg hf
  | 3, _ => exact k_U (As := []) (rest := rest) F (k_X8_stays_3 x k hk) (va_cwO (owner := "LeftGloves$Glove") 0 hts (lw_O q612 q615 q613 q624 q625 q102 q626) rfl rfl rfl q632 (by decide +kernel) ⟨Nat.le_trans (Nat.le_of_ble_eq_true rfl) hR.1, Nat.le_trans (Nat.le_of_ble_eq_true rfl) hR.2⟩) hI hK (hw.recv hI hK (cf_gk (κ := 3) (by decide) hk) (q := (RX9, TX9, 4)) rfl) rfl hsize rfl hW hdg hf
  | 4, _ => exact k_U (As := []) (rest := rest) F (k_X10_stays_4 x k hk) (va_cwO (owner := "LeftGloves$Glove") 0 hts (lw_O q612 q615 q613 q616 q617 q104 q618) rfl rfl rfl q632 (by decide +kernel) ⟨Nat.le_trans (Nat.le_of_ble_eq_true rfl) hR.1, Nat.le_trans (Nat.le_of_ble_eq_true rfl) hR.2⟩) hI hK (hw.recv hI hK (cf_gk (κ := 4) (by decide) hk) (q := (RX10, TX10, 5)) rfl) rfl hsize rfl hW hdg hf
  | 5, _ => exact k_U (As := []) (rest := rest) F (k_X11_stays_5 x k hk) (va_cwO (owner := "LeftGloves$Glove") 0 hts (lw_O q612 q615 q613 q629 q630 q105 q631) rfl rfl rfl q632 (by decide +kernel) ⟨Nat.le_trans (Nat.le_of_ble_eq_true rfl) hR.1, Nat.le_trans (Nat.le_of_ble_eq_true rfl) hR.2⟩) hI hK (hw.recv hI hK (cf_gk (κ := 5) (by decide) hk) (q := (RX11, TX11, 3)) rfl) rfl hsize rfl hW hdg hf
  | 6, _ => exact k_U (As := []) (rest := rest) F (k_X7_stays_6 x k hk) (va_cwO (owner := "LeftGloves$Glove") 0 hts (lw_O q612 q615 q613 q619 q620 q101 q621) rfl rfl rfl q632 (by decide +kernel) ⟨Nat.le_trans (Nat.le_of_ble_eq_true rfl) hR.1, Nat.le_trans (Nat.le_of_ble_eq_true rfl) hR.2⟩) hI hK (hw.recv hI hK (cf_gk (κ := 6) (by decide) hk) (q := (RX12, TX12, 4)) rfl) rfl hsize rfl hW hdg hf
theorem run_keeps {p : Program} {l : Launch} {e : Env} {R : Room} {s : State} {m : MethodId} {args : Array Value} {below : List Frame} {meth : Method} {c : Code} {H : Heap} {locs : List Loc} {cells slots pc nL : Nat} {ls : Array Slot} {rest : List Value} {A : Nat → Prop} {D : va_G} {L : Nat → Nat} {cc : ByteArray} {x : cst} {κ k : Nat} (F : CallFix p m c cc nL s args lw_all RX0) (hκ : κ < 7) (hk : k < 8) (hI : hw D (cfC D L x) A H) (hK : KK D s) (hsize : ls.size = nL) (hW : (rest.map fun v => v.category).sum ≤ 8) (hdg : decode cc pc = .ok (.invokevirtual 167, 3)) (hf : cells ≤ R.cells ∧ slots ≤ R.slots) (hR : 3 ≤ R.frames ∧ 60 ≤ R.locals) :
    va_Run p l e R s m args below meth c H locs cells slots 0 0 (F0 m pc ls (.ref (L (123 + (8 * κ + k))) :: rest)) rest (rQ (.int (kpI κ)) (Value.ref (L (123 + (8 * κ + k))) :: []).toArray) nof := by
  have hts := F.2.2.2.2
  match κ, hκ with
  | 0, _ => exact k_V (As := []) (rest := rest) F (k_X6_keeps_0 x k hk) (cwV 0 hts (lw_V q633 q634 q635 q100 q661) rfl rfl rfl (by decide +kernel) ⟨Nat.le_trans (Nat.le_of_ble_eq_true rfl) hR.1, Nat.le_trans (Nat.le_of_ble_eq_true rfl) hR.2⟩) hI hK (hw.recv hI hK (cf_gk (κ := 0) (by decide) hk) (q := (RX6, TX6, 2)) rfl) rfl hsize rfl hW hdg hf
  | 1, _ => exact k_U (As := []) (rest := rest) F (k_X7_keeps_1 x k hk) (va_cwO (owner := "LeftGloves$Glove") 0 hts (lw_O q633 q636 q634 q655 q652 q101 q653) rfl rfl rfl q661 (by decide +kernel) ⟨Nat.le_trans (Nat.le_of_ble_eq_true rfl) hR.1, Nat.le_trans (Nat.le_of_ble_eq_true rfl) hR.2⟩) hI hK (hw.recv hI hK (cf_gk (κ := 1) (by decide) hk) (q := (RX7, TX7, 3)) rfl) rfl hsize rfl hW hdg hf
  | 2, _ => exact k_U (As := []) (rest := rest) F (k_X8_keeps_2 x k hk) (va_cwO (owner := "LeftGloves$Glove") 0 hts (lw_O q633 q636 q634 q657 q638 q102 q639) rfl rfl rfl q661 (by decide +kernel) ⟨Nat.le_trans (Nat.le_of_ble_eq_true rfl) hR.1, Nat.le_trans (Nat.le_of_ble_eq_true rfl) hR.2⟩) hI hK (hw.recv hI hK (cf_gk (κ := 2) (by decide) hk) (q := (RX8, TX8, 3)) rfl) rfl hsize rfl hW hdg hf
  | 3, _ => exact k_U (As := []) (rest := rest) F (k_X8_keeps_3 x k hk) (va_cwO (owner := "LeftGloves$Glove") 0 hts (lw_O q633 q636 q634 q656 q638 q102 q639) rfl rfl rfl q661 (by decide +kernel) ⟨Nat.le_trans (Nat.le_of_ble_eq_true rfl) hR.1, Nat.le_trans (Nat.le_of_ble_eq_true rfl) hR.2⟩) hI hK (hw.recv hI hK (cf_gk (κ := 3) (by decide) hk) (q := (RX9, TX9, 4)) rfl) rfl hsize rfl hW hdg hf
  | 4, _ => exact k_U (As := []) (rest := rest) F (k_X8_keeps_4 x k hk) (va_cwO (owner := "LeftGloves$Glove") 0 hts (lw_O q633 q636 q634 q637 q638 q102 q639) rfl rfl rfl q661 (by decide +kernel) ⟨Nat.le_trans (Nat.le_of_ble_eq_true rfl) hR.1, Nat.le_trans (Nat.le_of_ble_eq_true rfl) hR.2⟩) hI hK (hw.recv hI hK (cf_gk (κ := 4) (by decide) hk) (q := (RX10, TX10, 5)) rfl) rfl hsize rfl hW hdg hf
  | 5, _ => exact k_U (As := []) (rest := rest) F (k_X11_keeps_5 x k hk) (va_cwO (owner := "LeftGloves$Glove") 0 hts (lw_O q633 q636 q634 q658 q659 q105 q660) rfl rfl rfl q661 (by decide +kernel) ⟨Nat.le_trans (Nat.le_of_ble_eq_true rfl) hR.1, Nat.le_trans (Nat.le_of_ble_eq_true rfl) hR.2⟩) hI hK (hw.recv hI hK (cf_gk (κ := 5) (by decide) hk) (q := (RX11, TX11, 3)) rfl) rfl hsize rfl hW hdg hf
  | 6, _ => exact k_U (As := []) (rest := rest) F (k_X12_keeps_6 x k hk) (va_cwO (owner := "LeftGloves$Glove") 0 hts (lw_O q633 q636 q634 q648 q649 q106 q650) rfl rfl rfl q661 (by decide +kernel) ⟨Nat.le_trans (Nat.le_of_ble_eq_true rfl) hR.1, Nat.le_trans (Nat.le_of_ble_eq_true rfl) hR.2⟩) hI hK (hw.recv hI hK (cf_gk (κ := 6) (by decide) hk) (q := (RX12, TX12, 4)) rfl) rfl hsize rfl hW hdg hf
theorem run_kind {p : Program} {l : Launch} {e : Env} {R : Room} {s : State} {m : MethodId} {args : Array Value} {below : List Frame} {meth : Method} {c : Code} {H : Heap} {locs : List Loc} {cells slots pc nL : Nat} {ls : Array Slot} {rest : List Value} {A : Nat → Prop} {D : va_G} {L : Nat → Nat} {cc : ByteArray} {x : cst} {κ k : Nat} (F : CallFix p m c cc nL s args lw_all RX0) (hκ : κ < 7) (hk : k < 8) (hI : hw D (cfC D L x) A H) (hK : KK D s) (hsize : ls.size = nL) (hW : (rest.map fun v => v.category).sum ≤ 8) (hdg : decode cc pc = .ok (.invokevirtual 211, 3)) (hf : cells ≤ R.cells ∧ slots ≤ R.slots) (hR : 4 ≤ R.frames ∧ 80 ≤ R.locals) :
    va_Run p l e R s m args below meth c H locs cells slots 0 0 (F0 m pc ls (.ref (L (123 + (8 * κ + k))) :: rest)) rest (rQ (.int (kdI κ)) (Value.ref (L (123 + (8 * κ + k))) :: []).toArray) nof := by
  have hts := F.2.2.2.2
  match κ, hκ with
  | 0, _ => exact k_V (As := []) (rest := rest) F (k_X6_kind_0 x k hk) (cwV 0 hts (lw_V q547 q548 q549 q100 q575) rfl rfl rfl (by decide +kernel) ⟨Nat.le_trans (Nat.le_of_ble_eq_true rfl) hR.1, Nat.le_trans (Nat.le_of_ble_eq_true rfl) hR.2⟩) hI hK (hw.recv hI hK (cf_gk (κ := 0) (by decide) hk) (q := (RX6, TX6, 2)) rfl) rfl hsize rfl hW hdg hf
  | 1, _ => exact k_U (As := []) (rest := rest) F (k_X7_kind_1 x k hk) (va_cwO (owner := "LeftGloves$Glove") 0 hts (lw_O q547 q550 q548 q568 q565 q101 q566) rfl rfl rfl q575 (by decide +kernel) ⟨Nat.le_trans (Nat.le_of_ble_eq_true rfl) hR.1, Nat.le_trans (Nat.le_of_ble_eq_true rfl) hR.2⟩) hI hK (hw.recv hI hK (cf_gk (κ := 1) (by decide) hk) (q := (RX7, TX7, 3)) rfl) rfl hsize rfl hW hdg hf
  | 2, _ => exact k_U (As := []) (rest := rest) F (k_X8_kind_2 x k hk) (va_cwO (owner := "LeftGloves$Glove") 0 hts (lw_O q547 q550 q548 q570 q558 q102 q559) rfl rfl rfl q575 (by decide +kernel) ⟨Nat.le_trans (Nat.le_of_ble_eq_true rfl) hR.1, Nat.le_trans (Nat.le_of_ble_eq_true rfl) hR.2⟩) hI hK (hw.recv hI hK (cf_gk (κ := 2) (by decide) hk) (q := (RX8, TX8, 3)) rfl) rfl hsize rfl hW hdg hf
  | 3, _ => exact k_U (As := []) (rest := rest) F (k_X9_kind_3 x k hk) (va_cwO (owner := "LeftGloves$Glove") 0 hts (lw_O q547 q550 q548 q569 q555 q103 q556) rfl rfl rfl q575 (by decide +kernel) ⟨Nat.le_trans (Nat.le_of_ble_eq_true rfl) hR.1, Nat.le_trans (Nat.le_of_ble_eq_true rfl) hR.2⟩) hI hK (hw.recv hI hK (cf_gk (κ := 3) (by decide) hk) (q := (RX9, TX9, 4)) rfl) rfl hsize rfl hW hdg hf
  | 4, _ => exact k_U (As := []) (rest := rest) F (k_X10_kind_4 x k hk) (va_cwO (owner := "LeftGloves$Glove") 0 hts (lw_O q547 q550 q548 q551 q552 q104 q553) rfl rfl rfl q575 (by decide +kernel) ⟨Nat.le_trans (Nat.le_of_ble_eq_true rfl) hR.1, Nat.le_trans (Nat.le_of_ble_eq_true rfl) hR.2⟩) hI hK (hw.recv hI hK (cf_gk (κ := 4) (by decide) hk) (q := (RX10, TX10, 5)) rfl) rfl hsize rfl hW hdg hf
  | 5, _ => exact k_U (As := []) (rest := rest) F (k_X11_kind_5 x k hk) (va_cwO (owner := "LeftGloves$Glove") 0 hts (lw_O q547 q550 q548 q571 q572 q105 q573) rfl rfl rfl q575 (by decide +kernel) ⟨Nat.le_trans (Nat.le_of_ble_eq_true rfl) hR.1, Nat.le_trans (Nat.le_of_ble_eq_true rfl) hR.2⟩) hI hK (hw.recv hI hK (cf_gk (κ := 5) (by decide) hk) (q := (RX11, TX11, 3)) rfl) rfl hsize rfl hW hdg hf
  | 6, _ => exact k_U (As := []) (rest := rest) F (k_X12_kind_6 x k hk) (va_cwO (owner := "LeftGloves$Glove") 0 hts (lw_O q547 q550 q548 q561 q562 q106 q563) rfl rfl rfl q575 (by decide +kernel) ⟨Nat.le_trans (Nat.le_of_ble_eq_true rfl) hR.1, Nat.le_trans (Nat.le_of_ble_eq_true rfl) hR.2⟩) hI hK (hw.recv hI hK (cf_gk (κ := 6) (by decide) hk) (q := (RX12, TX12, 4)) rfl) rfl hsize rfl hW hdg hf
theorem run_isUnder {p : Program} {l : Launch} {e : Env} {R : Room} {s : State} {m : MethodId} {args : Array Value} {below : List Frame} {meth : Method} {c : Code} {H : Heap} {locs : List Loc} {cells slots pc nL : Nat} {ls : Array Slot} {rest : List Value} {A : Nat → Prop} {D : va_G} {L : Nat → Nat} {cc : ByteArray} {x : cst} {κ k : Nat} {kd : Int32} (F : CallFix p m c cc nL s args lw_all RX0) (hκ : κ < 7) (hk : k < 8) (hI : hw D (cfC D L x) A H) (hK : KK D s) (hsize : ls.size = nL) (hW : (rest.map fun v => v.category).sum ≤ 8) (hdg : decode cc pc = .ok (.invokevirtual 362, 3)) (hf : cells ≤ R.cells ∧ slots ≤ R.slots) (hR : 7 ≤ R.frames ∧ 143 ≤ R.locals) :
    va_Run p l e R s m args below meth c H locs cells slots 0 0 (F0 m pc ls (.int kd :: .ref (L (123 + (8 * κ + k))) :: rest)) rest (rQ (.int (unI κ kd)) (Value.ref (L (123 + (8 * κ + k))) :: [.int kd]).toArray) nof := by
  have hts := F.2.2.2.2
  match κ, hκ with
  | 0, _ => exact k_V (As := [.int kd]) (rest := rest) F (k_X6_isUnder_0 x k hk kd) (cwV 1 hts (lw_V q1075 q1076 q1077 q100 q1094) rfl rfl rfl (by decide +kernel) ⟨Nat.le_trans (Nat.le_of_ble_eq_true rfl) hR.1, Nat.le_trans (Nat.le_of_ble_eq_true rfl) hR.2⟩) hI hK (hw.recv hI hK (cf_gk (κ := 0) (by decide) hk) (q := (RX6, TX6, 2)) rfl) rfl hsize rfl hW hdg hf
  | 1, _ => exact k_U (As := [.int kd]) (rest := rest) F (k_X7_isUnder_1 x k hk kd) (va_cwO (owner := "LeftGloves$Glove") 1 hts (lw_O q1075 q1078 q1076 q1090 q1087 q101 q1088) rfl rfl rfl q1094 (by decide +kernel) ⟨Nat.le_trans (Nat.le_of_ble_eq_true rfl) hR.1, Nat.le_trans (Nat.le_of_ble_eq_true rfl) hR.2⟩) hI hK (hw.recv hI hK (cf_gk (κ := 1) (by decide) hk) (q := (RX7, TX7, 3)) rfl) rfl hsize rfl hW hdg hf
  | 2, _ => exact k_U (As := [.int kd]) (rest := rest) F (k_X8_isUnder_2 x k hk kd) (va_cwO (owner := "LeftGloves$Glove") 1 hts (lw_O q1075 q1078 q1076 q1092 q1083 q102 q1084) rfl rfl rfl q1094 (by decide +kernel) ⟨Nat.le_trans (Nat.le_of_ble_eq_true rfl) hR.1, Nat.le_trans (Nat.le_of_ble_eq_true rfl) hR.2⟩) hI hK (hw.recv hI hK (cf_gk (κ := 2) (by decide) hk) (q := (RX8, TX8, 3)) rfl) rfl hsize rfl hW hdg hf
  | 3, _ => exact k_U (As := [.int kd]) (rest := rest) F (k_X9_isUnder_3 x k hk kd) (va_cwO (owner := "LeftGloves$Glove") 1 hts (lw_O q1075 q1078 q1076 q1091 q1080 q103 q1081) rfl rfl rfl q1094 (by decide +kernel) ⟨Nat.le_trans (Nat.le_of_ble_eq_true rfl) hR.1, Nat.le_trans (Nat.le_of_ble_eq_true rfl) hR.2⟩) hI hK (hw.recv hI hK (cf_gk (κ := 3) (by decide) hk) (q := (RX9, TX9, 4)) rfl) rfl hsize rfl hW hdg hf
  | 4, _ => exact k_U (As := [.int kd]) (rest := rest) F (k_X9_isUnder_4 x k hk kd) (va_cwO (owner := "LeftGloves$Glove") 1 hts (lw_O q1075 q1078 q1076 q1079 q1080 q103 q1081) rfl rfl rfl q1094 (by decide +kernel) ⟨Nat.le_trans (Nat.le_of_ble_eq_true rfl) hR.1, Nat.le_trans (Nat.le_of_ble_eq_true rfl) hR.2⟩) hI hK (hw.recv hI hK (cf_gk (κ := 4) (by decide) hk) (q := (RX10, TX10, 5)) rfl) rfl hsize rfl hW hdg hf
  | 5, _ => exact k_U (As := [.int kd]) (rest := rest) F (k_X6_isUnder_5 x k hk kd) (va_cwU (owner := "LeftGloves$Glove") 1 hts (lw_U q1075 q1078 q1093 q1076 q100 q1094) rfl rfl rfl rfl (by decide +kernel) ⟨Nat.le_trans (Nat.le_of_ble_eq_true rfl) hR.1, Nat.le_trans (Nat.le_of_ble_eq_true rfl) hR.2⟩) hI hK (hw.recv hI hK (cf_gk (κ := 5) (by decide) hk) (q := (RX11, TX11, 3)) rfl) rfl hsize rfl hW hdg hf
  | 6, _ => exact k_U (As := [.int kd]) (rest := rest) F (k_X7_isUnder_6 x k hk kd) (va_cwO (owner := "LeftGloves$Glove") 1 hts (lw_O q1075 q1078 q1076 q1086 q1087 q101 q1088) rfl rfl rfl q1094 (by decide +kernel) ⟨Nat.le_trans (Nat.le_of_ble_eq_true rfl) hR.1, Nat.le_trans (Nat.le_of_ble_eq_true rfl) hR.2⟩) hI hK (hw.recv hI hK (cf_gk (κ := 6) (by decide) hk) (q := (RX12, TX12, 4)) rfl) rfl hsize rfl hW hdg hf
