/-! the reader: what a String constant is; methods that may throw, by a plain law -/
def keyL : List Nat := [103, 108, 111, 118, 101, 32, 32, 107, 105, 100, 115, 107, 105, 110, 109, 105, 116, 116, 101, 110, 32, 108, 97, 100, 121, 32, 32, 32, 98, 117, 114, 110, 116, 32, 32, 115, 116, 105, 102, 102, 32, 32, 100, 111, 117, 98, 108, 101, 32, 115, 97, 105, 100, 32, 32, 32, 104, 97, 110, 100, 32, 32, 32, 105, 110, 32, 32, 32, 32, 32, 111, 112, 101, 110, 32, 32, 32, 107, 110, 111, 119, 115, 32, 32, 108, 105, 101, 115, 32, 32, 32]
def keyB : List Int32 := keyL.map nI
def SS (σ : Nat × Nat × Value) (A : Nat → Prop) (U : State) : Prop := vk_R "LeftGloves$Reader" 75 "glove  kidskinmitten lady   burnt  stiff  double said   hand   in     open   knows  lies   " σ.1 U ∧ vk_S 1 [91] [keyB] (fun _ => σ.1) (fun _ => σ.2.1) A U U.heap ∧ va_Z "java/lang/String" "COMPACT_STRINGS" "Z" (.int 1) A U U.heap ∧ va_Z "jdk/internal/util/Preconditions" "SIOOBE_FORMATTER" "Ljava/util/function/BiFunction;" σ.2.2 A U U.heap
theorem SS.warm {σ : Nat × Nat × Value} {A : Nat → Prop} {s U : State} {locs : List Loc} (h : SS σ A s) (hW : s.WarmedH U.vm) (hS : va_S A s.heap U.heap locs) : SS σ A U :=
  ⟨vk_R.warm hW h.1, (vk_S.moved hW.alike h.2.1).kept hS.2.1, (va_Z.moved hW.alike h.2.2.1).kept hS.2.1, (va_Z.moved hW.alike h.2.2.2).kept hS.2.1⟩
theorem SS.same {σ : Nat × Nat × Value} {A : Nat → Prop} {s U : State} (h : SS σ A s) (hv : s.vm = U.vm) (hh : U.heap = s.heap) : SS σ A U := by
  have ha : s.vm.Alike U.vm := by rw [hv]; exact Vm.Alike.refl _
  refine ⟨vk_R.same hv.symm h.1, ?_, ?_, ?_⟩
  · rw [hh]; exact vk_S.moved ha h.2.1
  · rw [hh]; exact va_Z.moved ha h.2.2.1
  · rw [hh]; exact va_Z.moved ha h.2.2.2
def pS (D : va_G) (cf : cmap) (A : Nat → Prop) (σ : Nat × Nat × Value) : State → Prop := fun U => hw D cf A U.heap ∧ KK D U ∧ SS σ A U
theorem pS_blind {D : va_G} {cf : cmap} {A : Nat → Prop} {σ : Nat × Nat × Value} {av : List Value} : FrameBlind (va_Pc av (pS D cf A σ)) := fun a U g mk q => ⟨q.1, q.2.1, KK.same (rfl : U.vm = (U.calling g mk a).vm) q.2.2.1, SS.same q.2.2.2 (rfl : U.vm = (U.calling g mk a).vm) rfl⟩
theorem pS_pre {D : va_G} {cf : cmap} {A : Nat → Prop} {σ : Nat × Nat × Value} {av : List Value} {s : State} {H : Heap} {locs : List Loc} (hI : hw D cf A H) (hK : KK D s) (hSS : SS σ A s) (hS : va_S A s.heap H locs) : ∀ U : State, U.heap = H → s.WarmedH U.vm → va_Pc av (pS D cf A σ) av.toArray U := fun U hU hW => ⟨rfl, by rw [hU]; exact hI, KK.warm hW hK, SS.warm hSS hW (by rw [hU]; exact hS)⟩
/-- the plain law's word: thrown (where the reading began), or the state and the answer -/
def pQ (D : va_G) (L : Nat → Nat) (x : cst) (A : Nat → Prop) (r : Nat ⊕ (cst × Option Value)) : Array Value → State → Outcome → State → Prop := fun _ st oc t => (match r with | .inl b => oc = .threw (L 47) ∧ ∃ x', jk x x' ∧ x'.2.1 1 2 = nI b ∧ hw D (cfC D L x') A t.heap | .inr q => oc = .returned q.2 ∧ hw D (cfC D L q.1) A t.heap) ∧ va_F A st t
theorem met_XS {l : Launch} {y : MethodName} {ws : List Cond} {rm : Room} {Qc : Array Value → State → Outcome → State → Prop} {free : Addr → Prop} {cc : ByteArray} {maxL : Nat} {ret : Option FieldType} {D : va_G} {cf : cmap} {A : Nat → Prop} {σ : Nat × Nat × Value} {av : List Value} (hy : plainName y.cls = true) (hw0 : ws = Cond.code y cc maxL ret :: lw_all) (hn : (lg_sl av).length ≤ maxL)
    (body : ∀ (p : Program) (e : Env) (s : State) (m : MethodId) (below : List Frame) (meth : Method) (c : Code) (ls : Array Slot), p.tables.exec = Jvm.exec → c.code = cc → meth.sig.returnType = ret → c.maxLocals = maxL → s.vm.findClass y.cls = some m.cls → (∀ w ∈ lw_all, w.before av.toArray s = true) → meth.locks = false → lv_has ls maxL (lv_args 0 av) → hw D cf A s.heap → KK D s → SS σ A s → (∀ x ∈ c.exceptionTable.toList, ∀ pc, covers x pc = false) →
      W p l e rm s m av.toArray below meth c s.heap [] 0 0 (MQX below Qc av.toArray s free) (F0 m 0 ls [])) : MetX l y ws rm (va_Pc av (pS D cf A σ)) Qc free := by
  refine MetFree.of_bodyS (code := cc) (maxLocals := maxL) (ret := ret) hy ?_ ?_
  · intro args s m h hn
    obtain ⟨meth, c, h1, h2, h3, h4, h5, h6, -, -⟩ := Cond.code_spec hn (atoms_spec (ws := ws) h _ (by rw [hw0]; exact List.mem_cons_self))
    exact ⟨meth, c, h1, h2, h3, h4, h5, h6⟩
  · intro p e s m args below meth c s₁ B hml hv _
    obtain ⟨rfl, hI, hK, hSS⟩ := hv
    have hh0 : s₁.heap = s.heap := by rw [B.state]; rfl
    have hts := atoms_spec (ws := ws) B.pre
    have hl := lv_entry av (n := maxL) hn
    have hemp := B.noHandlers (hts _ (by rw [hw0]; exact List.mem_cons_self))
    have hnil : c.exceptionTable.toList = [] := List.eq_nil_of_length_eq_zero (by simpa [Array.isEmpty] using hemp)
    have hb := body p e s m below meth c _ B.exec B.bytes B.returns hml (findClass_of_methodNamed B.named) (fun w h => hts w (by rw [hw0]; exact List.mem_cons_of_mem _ h)) B.notSynchronized hl hI hK hSS (fun x hx => by rw [hnil] at hx; cases hx)
    rw [← lg_entry_eq] at hb
    obtain ⟨t, a1, o, b1, b2, b3⟩ := hb s₁ hh0 (Stand.of_body B)
    exact ⟨t, o, a1, b1, b2, b3⟩
theorem met_S {l : Launch} {y : MethodName} {ws : List Cond} {rm : Room} {Qc : Array Value → State → Outcome → State → Prop} {mc ms : Nat} {free : Addr → Prop} {cc : ByteArray} {maxL : Nat} {ret : Option FieldType} {D : va_G} {cf : cmap} {A : Nat → Prop} {σ : Nat × Nat × Value} {av : List Value} (hy : plainName y.cls = true) (hw0 : ws = Cond.code y cc maxL ret :: lw_all) (hn : (lg_sl av).length ≤ maxL)
    (body : ∀ (p : Program) (e : Env) (s : State) (m : MethodId) (below : List Frame) (meth : Method) (c : Code) (ls : Array Slot), p.tables.exec = Jvm.exec → c.code = cc → meth.sig.returnType = ret → c.maxLocals = maxL → s.vm.findClass y.cls = some m.cls → (∀ w ∈ lw_all, w.before av.toArray s = true) → meth.locks = false → lv_has ls maxL (lv_args 0 av) → hw D cf A s.heap → KK D s → SS σ A s →
      W p l e rm s m av.toArray below meth c s.heap [] 0 0 (MQ below Qc av.toArray s mc ms free) (F0 m 0 ls [])) : Met l y ws rm (va_Pc av (pS D cf A σ)) Qc mc ms free := by
  refine Met.ofW (cc := cc) (maxL := maxL) (ret := ret) hy hw0 ?_
  intro p e s m args below meth c s₁ B hml hv
  obtain ⟨rfl, hI, hK, hSS⟩ := hv
  have hts := atoms_spec (ws := ws) B.pre
  have hl := lv_entry av (n := maxL) hn
  rw [lg_entry_eq]
  exact body p e s m below meth c _ B.exec B.bytes B.returns hml (findClass_of_methodNamed B.named) (fun w h => hts w (by rw [hw0]; exact List.mem_cons_of_mem _ h)) B.notSynchronized hl hI hK hSS
section XP
variable {p : Program} {l : Launch} {e : Env} {R : Room} {s : State} {m : MethodId} {args : Array Value} {below : List Frame} {meth : Method} {c : Code} {H H0 : Heap} {locs : List Loc} {cells slots : Nat} {Q Q' : State → Prop}
variable {cc : ByteArray} {pc : Nat} {ls : Array Slot} {rest st0 : List Value} {A : Nat → Prop} {D : va_G} {L : Nat → Nat} {cf cf' : cmap} {free : Addr → Prop} {Qc : Array Value → State → Outcome → State → Prop} {σ : Nat × Nat × Value} {x x1 : cst} {r r1 : Nat ⊕ (cst × Option Value)}
variable {y : MethodName} {bytes : ByteArray} {maxL nL n index : Nat} {ret : Option FieldType} {rm : Room} {own C : String} {b i ci : Nat} {As : List Value} {fs : List Value} {q : vw_C}
theorem k_XP (S : CallFix p m c cc nL s args lw_all own) (hM : MetX l y (ws_ y bytes maxL ret) rm (va_Pc (.ref b :: As) (pS D cf A σ)) Qc free) (hrm : rm.cells = 0 ∧ rm.slots = 0) (hR : rm.frames + 1 ≤ R.frames ∧ 8 + (maxL + 11) + rm.locals ≤ R.locals)
    (q1 : Cond.methodLink own index y ∈ lw_all) (q2 : Cond.instanceMethod y ∈ lw_all) (q3 : Cond.selects C y y ∈ lw_all) (q4 : Cond.initialized y.cls ∈ lw_all) (q5 : Cond.code y bytes maxL ret ∈ lw_all) (hd : y.cls ≠ "java/lang/invoke/MethodHandle" ∧ y.cls ≠ "java/lang/invoke/VarHandle" ∧ (parseMethodDescriptor y.desc).map (fun d => d.parameters.length) = some n)
    (hI : hw D cf A H) (hK : KK D s) (hSS : SS σ A s) (hS : va_S A s.heap H locs) (hr : ∃ cellB : Cell, H[b]? = some cellB ∧ cellB.vm.isStatics = false ∧ s.vm.findClass C = some cellB.cls)
    (hn : As.length = n) (hsize : ls.size = nL) (hstack : st0 = As.reverse ++ .ref b :: rest) (hW : (rest.map fun v => v.category).sum ≤ 8) (hdg : decode cc pc = .ok (.invokevirtual index, 3)) (hf : cells ≤ R.cells ∧ slots ≤ R.slots) :
    XRun p l e R s m args below meth c H locs cells slots (F0 m pc ls st0) rest (Qc (Value.ref b :: As).toArray) free := by
  obtain ⟨hx, hb, hml, hown, hts⟩ := S
  obtain ⟨cellB, hcB, hoB, hclB⟩ := hr
  obtain ⟨mk, methM, hnamed, hmethM, hstM, habM⟩ := Cond.instanceMethod_spec (hts _ q2)
  obtain ⟨methM', cM, hmethM', hcM, -, hlM, -, -, -, hsigM⟩ := Cond.code_spec hnamed (hts _ q5)
  cases hmethM.symm.trans hmethM'
  obtain ⟨c2, r2, m2, z1, z2, z3, z4, kP, hkP, hkPi⟩ := Cond.selects_spec (hts _ q3)
  cases hclB.symm.trans z1
  cases (State.methodFound?_of_named hnamed ⟨hd.1, hd.2.1⟩).symm.trans z2
  cases hnamed.symm.trans z3
  intro T hT X
  have hselP : selectMethod e.platform s.vm cellB.cls mk = .method mk := by rw [Launch.admits_selectMethod X.admits]; exact z4
  obtain ⟨vm₁, X₁, hstep₁⟩ := X.invokevirtual hx hown (hts _ q1) hnamed hmethM hstM hkP hkPi ⟨hd.1, hd.2.1⟩ (a := b) (cell := cellB) (by rw [hT]; exact hcB)
    (fun z h => by rw [h] at hoB; cases hoB) hselP hmethM habM hkP hkPi (g := F0 m pc ls st0) rfl (argsL := As) (rest := rest) (by have h2 := hd.2.2; rw [hsigM] at h2; rw [hn]; exact (Option.some.inj h2).symm) hstack (by rw [hb]; exact hdg)
  obtain ⟨o, t, T', L2, X', h1, h2, h3, h4⟩ := runX_core X₁ hM hrm hR hf (pay_in hts (lw_meth q5)) (fun a' U hW => word_at hW (Or.inl (by first | rfl | simp [Cond.onTables, Cond.keeps, Cond.steady])) (hts _ q4)) hnamed hmethM hcM hlM (g := F0 m pc ls rest) rfl (hsize.trans hml.symm) (by rw [hb]; exact hdg) (lv_room (m := m) (pc := pc) (ls := ls) (rest := rest) hW) (a := (Value.ref b :: As).toArray) (pS_blind _ _ _ _ (pS_pre hI hK hSS hS _ hT X₁.warmed))
  exact ⟨o, (T.setVm vm₁).calling (F0 m pc ls rest) mk (Value.ref b :: As).toArray, t, T', L2, hT, X', h3, h1, h2, fun target h => hstep₁ _ fun acts => by rw [doInvoke_state]; exact h4.trans h⟩
/-- a call that reads, of a method that knows the constant -/
theorem k_VS (S : CallFix p m c cc nL s args lw_all own) (hM : Met l y (ws_ y bytes maxL ret) rm (va_Pc (.ref b :: As) (pS D cf A σ)) Qc 0 0 free) (cw : CallW R s args own C index y bytes maxL ret (ws_ y bytes maxL ret) rm 0 0 n) (hI : hw D cf A H) (hK : KK D s) (hSS : SS σ A s) (hS : va_S A s.heap H locs) (hr : ∃ cellB : Cell, H[b]? = some cellB ∧ cellB.vm.isStatics = false ∧ s.vm.findClass C = some cellB.cls)
    (hn : As.length = n) (hsize : ls.size = nL) (hstack : st0 = As.reverse ++ .ref b :: rest) (hW : (rest.map fun v => v.category).sum ≤ 8) (hdg : decode cc pc = .ok (.invokevirtual index, 3)) (hf : cells ≤ R.cells ∧ slots ≤ R.slots) :
    va_Run p l e R s m args below meth c H locs cells slots 0 0 (F0 m pc ls st0) rest (Qc (Value.ref b :: As).toArray) free :=
  va_runV S hM cw ⟨pS_blind, hr, pS_pre hI hK hSS hS⟩ rfl hn hsize hstack (lv_room hW) hdg hf
theorem k_SS (S : CallFix p m c cc nL s args lw_all own) (hM : Met l y (ws_ y bytes maxL ret) rm (va_Pc As (pS D cf A σ)) Qc 0 0 free) (cw : CallB R s args own index y bytes maxL ret (ws_ y bytes maxL ret) rm 0 0 n ∧ (Cond.static y).before args s = true) (hI : hw D cf A H) (hK : KK D s) (hSS : SS σ A s) (hS : va_S A s.heap H locs)
    (hn : As.length = n) (hsize : ls.size = nL) (hstack : st0 = As.reverse ++ rest) (hW : (rest.map fun v => v.category).sum ≤ 8) (hdg : decode cc pc = .ok (.invokestatic index, 3)) (hf : cells ≤ R.cells ∧ slots ≤ R.slots) :
    va_Run p l e R s m args below meth c H locs cells slots 0 0 (F0 m pc ls st0) rest (Qc As.toArray) free :=
  va_runS S hM cw ⟨pS_blind, pS_pre hI hK hSS hS⟩ rfl hn hsize hstack (lv_room hW) hdg hf
theorem x_retP {x' : cst} {ov : Option Value} {a : Array Value} (hr : XRun p l e R s m args below meth c H locs cells slots (F0 m pc ls st0) rest (pQ D L x1 A r1 a) A) (h1 : r1 = .inr (x', ov)) (hS : va_S A H0 H locs)
    (kk : ∀ (H1 : Heap) (locs1 : List Loc), hw D (cfC D L x') A H1 → va_S A H0 H1 locs1 → W p l e R s m args below meth c H1 locs1 cells slots Q (F0 m (pc + 3) ls (ov.toList ++ rest))) : W p l e R s m args below meth c H locs cells slots Q (F0 m pc ls st0) := by
  subst h1
  intro T hT X
  obtain ⟨o, st₀, t, T', L2, h0, X', hL, e1, ⟨⟨rfl, hI⟩, hz, hk⟩, st⟩ := hr T hT X
  rw [h0] at hz hk
  obtain ⟨t2, a1, b1⟩ := kk T'.heap (locs ++ L2) (by rw [e1]; exact hI) ⟨Nat.le_trans hS.1 (by rw [e1]; exact hz), fun q h1 h2 => by rw [e1, hk q (Nat.lt_of_lt_of_le h1 hS.1) h2]; exact hS.2.1 q h1 h2, fun q hq => by
      rcases List.mem_append.mp hq with h | h
      · exact hS.2.2 q h
      · exact hL q h⟩ T' rfl X'
  exact ⟨t2, st t2 a1, b1⟩
theorem x_thrP {bq : Nat} {a : Array Value} (hr : XRun p l e R s m args below meth c H locs 0 0 (F0 m pc ls st0) rest (pQ D L x1 A r1 a) A) (h1 : r1 = .inl bq) (hS : va_S A s.heap H locs) (hlocks : meth.locks = false) (hout : ∀ x ∈ c.exceptionTable.toList, ∀ pc, covers x pc = false) (hj : jk x x1) (h2 : r = .inl bq) : W p l e R s m args below meth c H locs 0 0 (MQX below (pQ D L x A r) args s A) (F0 m pc ls st0) := by
  subst h1 h2
  intro T hT X
  obtain ⟨o, st₀, t, T', L2, h0, X', hL, e1, ⟨⟨rfl, x', hj', hb', hI⟩, hz, hk⟩, st⟩ := hr T hT X
  rw [h0] at hz hk
  obtain ⟨h1, h2, h3, h4, h5⟩ := X'.leaveThrown (L 47) (g := F0 m pc ls rest) rfl rfl rfl (fun x hx => hout x hx _) hlocks
  refine ⟨_, st _ h1, .threw (L 47), h2, h3, ⟨⟨rfl, x', hj.trans hj', hb', ?_⟩, ?_, ?_⟩, h4, locs ++ L2, h5, fun q hq => ?_⟩
  · show hw D (cfC D L x') A T'.heap
    rw [e1]; exact hI
  · show s.heap.size ≤ T'.heap.size
    rw [e1]; exact Nat.le_trans hS.1 hz
  · intro q g1 g2
    show T'.heap[q]? = _
    rw [e1, hk q (Nat.lt_of_lt_of_le g1 hS.1) g2]; exact hS.2.1 q g1 g2
  · rcases List.mem_append.mp hq with h | h
    · exact hS.2.2 q h
    · exact hL q h
end XP
