/-! THE CLAIM OUT OF ONE WALK OF THE LAW'S BODY. Your part is whole_start (and what it stands on); all else here is the same for every law, but numbers. -/
def R_law : String := "LeftGlovesLaw"
def lw_P (b : Addr) (xs : List Int32) (args : Array Value) (s : State) : Prop := args = #[.ref b] ∧ s.IntsAt b xs ∧ xs.length ≤ 384 ∧ (Jvm.Cond.and given_1 narrow_1).before args s = true
def lw_Q (_ : Array Value) (s : State) (o : Outcome) (t : State) : Prop := o = .returned (some (.int 1)) ∧ Framed s o t [] 814468 6652701
def lw_Z (below : List Frame) (a : Array Value) (s : State) : State → Prop := fun t => ∃ o, t.status = .running ∧ Ended t below o ∧ lw_Q a s o t
/-- the law's own end, with 1 on the stack, nothing written that was there before, its room as the claim has it -/
theorem lw_ret {p : Program} {l : Launch} {e : Env} {s : State} {m : MethodId} {below : List Frame} {meth : Method} {c : Code} {b : Nat} (hx : p.tables.exec = Jvm.exec) (hb : c.code = code) (hr : meth.sig.returnType = ret) (hlocks : meth.locks = false) {pc : Nat} {H : Heap} {ls : Array Slot} (hdg : decode code pc = .ok (.ireturn, 1)) : W p l e room_1 s m #[Value.ref b] below meth c H [] 814468 6652701 (lw_Z below #[Value.ref b] s) (F0 m pc ls [.int 1]) := by
  intro T hT X
  obtain ⟨fs, hret, hrun, hended, hW, hframe⟩ := X.leave (v := some (.int 1)) (hlocks := hlocks) (fun h => by rw [hr] at h; cases h)
  have hmeth' : T.vm.method? m = some meth := X.method'
  refine ⟨T.setFrames fs, ?_, .returned (some (.int 1)), hrun, hended, rfl, ⟨_, rfl⟩, hW, hframe⟩
  jvm_step X.here [X.here.top, hx, hb, hdg, hmeth', hr, ret, narrow_b1]
  (try refine ⟨rfl, ?_⟩); (try refine ⟨rfl, ?_⟩)
  first | (intro acts; rw [hret _ acts rfl rfl rfl]) | rw [hret _ _ rfl rfl rfl]
  exact Steps.refl _
/-- what holds at the law's entry: the machine, the code, the tables' words (any of lw_tbl by 'hts w (by decide +kernel)'), the script of L ints xs at the cell b, what the Statement gives of the start (any of its parts by flat_of_before) -/
def lw_At (p : Program) (s : State) (m : MethodId) (meth : Method) (c : Code) (b L : Nat) (xs : Nat → Int32) : Prop :=
  p.tables.exec = Jvm.exec ∧ c.code = code ∧ meth.sig.returnType = ret ∧ c.maxLocals = 4 ∧ s.vm.findClass R_law = some m.cls ∧ (∀ w ∈ lw_tbl, w.before #[Value.ref b] s = true) ∧ va_X b L xs s s.heap ∧ b < s.heap.size ∧ meth.locks = false ∧ (Jvm.Cond.and given_1 narrow_1).before #[Value.ref b] s = true
/-! the law: its rows -/
theorem SS.narrow {σ : Nat × Nat × Value} {A B : Nat → Prop} {U : State} (h : SS σ A U) (hAB : ∀ q, B q → A q) : SS σ B U := ⟨h.1, h.2.1.narrow hAB, h.2.2.1.narrow hAB, h.2.2.2.narrow hAB⟩
theorem NX.narrow {z : Value × Value} {A B : Nat → Prop} {U : State} (h : NX z A U) (hAB : ∀ q, B q → A q) (hB : ∀ q, U.heap.size ≤ q → B q) : NX z B U := ⟨h.1, h.2.1, h.2.2.1.narrow hAB, h.2.2.2.1.narrow hAB, hB⟩
def A0l (s : State) : Nat → Prop := fun q => s.heap.size ≤ q
def ACl (s : State) (LM : Nat → Nat) : Nat → Prop := fun q => s.heap.size ≤ q ∧ ∀ i, i < 11 → q ≠ LM i
def AMl (LM : Nat → Nat) : Nat → Prop := fun q => ∃ i, i < 11 ∧ q = LM i
/-- both worlds in one heap -/
def LW (D : va_G) (L LM : Nat → Nat) (s : State) (x : cst) (y : mst) (H : Heap) (locs : List Loc) : Prop := hw D (cfC D L x) (ACl s LM) H ∧ hw D (cfM D LM y) (AMl LM) H ∧ va_S (A0l s) s.heap H locs ∧ ∀ i, i < 11 → s.heap.size ≤ LM i
def LG (p : Program) (s : State) (m : MethodId) (meth : Method) (c : Code) (b Ln : Nat) (xs : Nat → Int32) (D : va_G) (σ : Nat × Nat × Value) (z : Value × Value) : Prop := lw_At p s m meth c b Ln xs ∧ KK D s ∧ SS σ (A0l s) s ∧ (σ.2.2 = .null ∨ ∃ a, σ.2.2 = .ref a) ∧ NX z (A0l s) s ∧ Ln ≤ 384
def gC (D : va_G) (L : Nat → Nat) (A : Nat → Prop) (P : cst → Prop) (ov : Option Value) : State → Outcome → State → Prop := fun st oc t => oc = .returned ov ∧ (∃ x', P x' ∧ hw D (cfC D L x') A t.heap) ∧ va_F A st t
def gM (D : va_G) (L : Nat → Nat) (A : Nat → Prop) (P : mst → Prop) (ov : Option Value) : State → Outcome → State → Prop := fun st oc t => oc = .returned ov ∧ (∃ x', P x' ∧ hw D (cfM D L x') A t.heap) ∧ va_F A st t
theorem LW.lm {D : va_G} {L LM : Nat → Nat} {s : State} {x : cst} {y : mst} {H : Heap} {locs : List Loc} (h : LW D L LM s x y H locs) : ∀ i, i < 11 → LM i < H.size := by
  intro i hi
  have : ∃ e, cfM D LM y i = some (LM i, e) := by
    rcases (show i = 0 ∨ i = 1 ∨ i = 2 ∨ i = 3 ∨ i = 4 ∨ i = 5 ∨ i = 6 ∨ i = 7 ∨ i = 8 ∨ i = 9 ∨ i = 10 by omega) with rfl | rfl | rfl | rfl | rfl | rfl | rfl | rfl | rfl | rfl | rfl <;> exact ⟨_, rfl⟩
  obtain ⟨e, he⟩ := this
  exact h.2.1.lt he
section LROWS
variable {p : Program} {l : Launch} {e : Env} {R : Room} {s : State} {m : MethodId} {args : Array Value} {below : List Frame} {meth : Method} {c : Code} {H : Heap} {locs : List Loc} {cells slots mc ms : Nat} {Q : State → Prop}
variable {cc : ByteArray} {pc : Nat} {ls : Array Slot} {rest st0 : List Value} {D : va_G} {L LM : Nat → Nat} {x : cst} {y : mst} {ov : Option Value}
theorem va_Run.mono {g : JFrame} {Qa Qb : State → Outcome → State → Prop} {free : Addr → Prop} (hr : va_Run p l e R s m args below meth c H locs cells slots mc ms g rest Qa free) (h : ∀ st o t, Qa st o t → Qb st o t) : va_Run p l e R s m args below meth c H locs cells slots mc ms g rest Qb free := by
  intro T hT X
  obtain ⟨v, st₀, t, T', L, h0, X', hL, e1, e2, hq, st⟩ := hr T hT X
  exact ⟨v, st₀, t, T', L, h0, X', hL, e1, e2, h _ _ _ hq, st⟩
theorem nQ_C {A : Nat → Prop} {a : Array Value} {x' : cst} (st : State) (o : Outcome) (t : State) (h : nQ D (cfC D L x') A ov a st o t) : gC D L A (jk x') ov st o t := ⟨h.1, ⟨x', jk_rfl, h.2.1⟩, h.2.2⟩
theorem jQ_C {A : Nat → Prop} {a : Array Value} {x' : cst} (st : State) (o : Outcome) (t : State) (h : jQ D L x' A ov a st o t) : gC D L A (jk x') ov st o t := h
theorem nQ_M {A : Nat → Prop} {a : Array Value} {x' : mst} (st : State) (o : Outcome) (t : State) (h : nQ D (cfM D L x') A ov a st o t) : gM D L A (jm x') ov st o t := ⟨h.1, ⟨x', jm_rfl, h.2.1⟩, h.2.2⟩
theorem jQ_M {A : Nat → Prop} {a : Array Value} {x' : mst} (st : State) (o : Outcome) (t : State) (h : jMQ D L x' A ov a st o t) : gM D L A (jm x') ov st o t := h
theorem sQ_C {A : Nat → Prop} {a : Array Value} {s0 : Int32} {r : Nat ⊕ (Int32 × shv)} (st : State) (o : Outcome) (t : State) (h : vQ D A (fun ov cf' => ov = some (.int (aS r)) ∧ ∃ x', cf' = cfC D L x' ∧ shP x s0 r x') a st o t) : gC D L A (shP x s0 r) (some (.int (aS r))) st o t := by
  obtain ⟨⟨ov, cf', h1, ⟨rfl, x', rfl, h3⟩, h4⟩, h5⟩ := h
  exact ⟨h1, ⟨x', h3, h4⟩, h5⟩
/-- behind a call of the component -/
theorem L_C {P : cst → Prop} (hr : va_Run p l e R s m args below meth c H locs cells slots mc ms (F0 m pc ls st0) rest (gC D L (ACl s LM) P ov) (ACl s LM)) (hL : LW D L LM s x y H locs)
    (kk : ∀ (x' : cst) (H1 : Heap) (locs1 : List Loc), P x' → LW D L LM s x' y H1 locs1 → W p l e R s m args below meth c H1 locs1 (cells + mc) (slots + ms) Q (F0 m (pc + 3) ls (ov.toList ++ rest))) : W p l e R s m args below meth c H locs cells slots Q (F0 m pc ls st0) := by
  intro T hT X
  obtain ⟨w, st₀, t, T', L2, h0, X', hL2, e1, e2, ⟨hv, ⟨x', hP, hI⟩, hz, hk⟩, st⟩ := hr T hT X
  cases hv
  rw [h0] at hz hk
  obtain ⟨g1, g2, g3, g4⟩ := hL
  obtain ⟨t2, a1, b1⟩ := kk x' T'.heap (locs ++ L2) hP ⟨by rw [e1]; exact hI, g2.kept (fun i a e he => by
      rw [e1]
      refine hk a (g2.lt he) (fun z => ?_)
      obtain ⟨j, hj, ej⟩ := (g2.1 i a e he).2
      exact z.2 j hj ej), ⟨Nat.le_trans g3.1 (by rw [e1]; exact hz), fun q h1 h2 => by rw [e1, hk q (Nat.lt_of_lt_of_le h1 g3.1) (fun z => h2 z.1)]; exact g3.2.1 q h1 h2, fun q hq => by
      rcases List.mem_append.mp hq with h | h
      · exact g3.2.2 q h
      · exact (hL2 q h).1⟩, g4⟩ T' rfl X'
  exact ⟨t2, st t2 a1, b1⟩
/-- behind a call of the model -/
theorem L_M {P : mst → Prop} (hr : va_Run p l e R s m args below meth c H locs cells slots 0 0 (F0 m pc ls st0) rest (gM D LM (AMl LM) P ov) (AMl LM)) (hL : LW D L LM s x y H locs)
    (kk : ∀ (y' : mst) (H1 : Heap) (locs1 : List Loc), P y' → LW D L LM s x y' H1 locs1 → W p l e R s m args below meth c H1 locs1 cells slots Q (F0 m (pc + 3) ls (ov.toList ++ rest))) : W p l e R s m args below meth c H locs cells slots Q (F0 m pc ls st0) := by
  intro T hT X
  obtain ⟨w, st₀, t, T', L2, h0, X', hL2, e1, e2, ⟨hv, ⟨y', hP, hI⟩, hz, hk⟩, st⟩ := hr T hT X
  cases hv
  rw [h0] at hz hk
  obtain ⟨g1, g2, g3, g4⟩ := hL
  have up : ∀ q, AMl LM q → A0l s q := fun q ⟨i, hi, e⟩ => by rw [e]; exact g4 i hi
  obtain ⟨t2, a1, b1⟩ := kk y' T'.heap (locs ++ L2) hP ⟨g1.kept (fun i a e he => by
      rw [e1]
      refine hk a (g1.lt he) (fun ⟨j, hj, ej⟩ => ?_)
      exact (g1.1 i a e he).2.2 j hj ej), by rw [e1]; exact hI, ⟨Nat.le_trans g3.1 (by rw [e1]; exact hz), fun q h1 h2 => by rw [e1, hk q (Nat.lt_of_lt_of_le h1 g3.1) (fun z => h2 (up q z))]; exact g3.2.1 q h1 h2, fun q hq => by
      rcases List.mem_append.mp hq with h | h
      · exact g3.2.2 q h
      · exact up _ (hL2 q h)⟩, g4⟩ T' rfl X'
  exact ⟨t2, st t2 a1, b1⟩
/-- an int of the script -/
theorem n_sld (hexec : p.tables.exec = Jvm.exec) (hb : c.code = cc) {b Ln : Nat} {xs : Nat → Int32} (hX : va_X b Ln xs s s.heap) (hbl : b < s.heap.size) (hLn : Ln ≤ 384) (hL : LW D L LM s x y H locs) {j : Int32} {k : Nat} (hj : j = nI k) (hk : k < Ln) (hdg : decode cc pc = .ok (.iaload, 1))
    (kk : W p l e R s m args below meth c H locs cells slots Q (F0 m (pc + 1) ls (.int (xs k) :: rest))) : W p l e R s m args below meth c H locs cells slots Q (F0 m pc ls (.int j :: .ref b :: rest)) := by
  refine va_sld (A := A0l s) hexec hb hX hbl (Nat.not_le.mpr hbl) hL.2.2.1 (vp_c hj hk (by omega)) hdg ?_
  rw [cl_c hj hk (by omega)]
  exact kk
variable {A : Nat → Prop} {free : Addr → Prop} {Qc : Array Value → State → Outcome → State → Prop} {yy : MethodName} {bytes : ByteArray} {maxL nL n index : Nat} {ret : Option FieldType} {rm : Room} {own C : String} {b : Nat} {As : List Value} {hh : List (Nat × Nat × Nat × Nat)} {PP : State → Prop}
/-- a call of a method with handlers, whatever its start asks -/
theorem k_VWg (S : CallFix p m c cc nL s args lw_all own) (hM : Met l yy (wsW_ yy bytes maxL ret hh) rm (va_Pc (.ref b :: As) PP) Qc 0 0 free) (hrm : rm.cells = 0 ∧ rm.slots = 0) (hR : rm.frames + 1 ≤ R.frames ∧ 8 + (maxL + 11) + rm.locals ≤ R.locals)
    (q1 : Cond.methodLink own index yy ∈ lw_all) (q2 : Cond.instanceMethod yy ∈ lw_all) (q3 : Cond.selects C yy yy ∈ lw_all) (q4 : Cond.initialized yy.cls ∈ lw_all) (q5 : Cond.codeWith yy bytes maxL ret hh ∈ lw_all) (hd : yy.cls ≠ "java/lang/invoke/MethodHandle" ∧ yy.cls ≠ "java/lang/invoke/VarHandle" ∧ (parseMethodDescriptor yy.desc).map (fun d => d.parameters.length) = some n)
    (hbl : FrameBlind (va_Pc (.ref b :: As) PP)) (hpre : ∀ U : State, U.heap = H → s.WarmedH U.vm → va_Pc (.ref b :: As) PP (Value.ref b :: As).toArray U) (hr : ∃ cellB : Cell, H[b]? = some cellB ∧ cellB.vm.isStatics = false ∧ s.vm.findClass C = some cellB.cls)
    (hn : As.length = n) (hsize : ls.size = nL) (hstack : st0 = As.reverse ++ .ref b :: rest) (hW : (rest.map fun v => v.category).sum ≤ 8) (hdg : decode cc pc = .ok (.invokevirtual index, 3)) (hf : cells ≤ R.cells ∧ slots ≤ R.slots) :
    va_Run p l e R s m args below meth c H locs cells slots 0 0 (F0 m pc ls st0) rest (Qc (Value.ref b :: As).toArray) free := by
  obtain ⟨hx, hb, hml, hown, hts⟩ := S
  obtain ⟨cellB, hcB, hoB, hclB⟩ := hr
  obtain ⟨mk, methM, hnamed, hmethM, hstM, habM⟩ := Cond.instanceMethod_spec (hts _ q2)
  obtain ⟨mk', methM', cM, hnamed', hmethM', hcM, -, hlM, -, -, -, hsigM⟩ := Cond.codeWith_spec (hts _ q5)
  cases hnamed.symm.trans hnamed'
  cases hmethM.symm.trans hmethM'
  obtain ⟨c2, r2, m2, z1, z2, z3, z4, kP, hkP, hkPi⟩ := Cond.selects_spec (hts _ q3)
  cases hclB.symm.trans z1
  cases (State.methodFound?_of_named hnamed ⟨hd.1, hd.2.1⟩).symm.trans z2
  cases hnamed.symm.trans z3
  have hB : Back l R p e below s args yy 3 8 (PreOf R 0 0 (va_Pc (.ref b :: As) PP)) (PostOf Qc 0 0 free) := va_backW (bytes := bytes) (maxL := maxL) (ret := ret) (hh := hh) hM hbl hrm.1 hrm.2 hR.1 hR.2 (pay_in hts (lw_methW q5)) List.mem_cons_self (fun a' U hW => word_at hW (Or.inl (by first | rfl | simp [Cond.onTables, Cond.keeps, Cond.steady])) (hts _ q4))
  intro T hT X
  have hselP : selectMethod e.platform s.vm cellB.cls mk = .method mk := by rw [Launch.admits_selectMethod X.admits]; exact z4
  obtain ⟨vm₁, X₁, hstep₁⟩ := X.invokevirtual hx hown (hts _ q1) hnamed hmethM hstM hkP hkPi ⟨hd.1, hd.2.1⟩ (a := b) (cell := cellB) (by rw [hT]; exact hcB)
    (fun z h => by rw [h] at hoB; cases hoB) hselP hmethM habM hkP hkPi (g := F0 m pc ls st0) rfl (argsL := As) (rest := rest) (by have h2 := hd.2.2; rw [hsigM] at h2; rw [hn]; exact (Option.some.inj h2).symm) hstack (by rw [hb]; exact hdg)
  obtain ⟨v, ⟨U', l2, c2, s2⟩, X', ⟨g', mk', t, L, e1, e2, hq, h1, hL, h2, h3⟩, hsteps⟩ := hB m meth c ⟨T.setVm vm₁, locs, cells, slots⟩ (F0 m pc ls rest) (.invokevirtual index) mk (Value.ref b :: As).toArray X₁ rfl (hsize.trans hml.symm) (by rw [hb]; exact hdg) (lv_room (m := m) (pc := pc) (ls := ls) (rest := rest) hW) (X₁.named hnamed) ⟨hf.1, hf.2, hpre _ hT X₁.warmed⟩
  dsimp only [Pt.U, Pt.locs, Pt.cells, Pt.slots] at X' e1 e2 h1 h2 h3 hsteps
  subst h1; subst h2; subst h3
  exact ⟨v, (T.setVm vm₁).calling g' mk' (Value.ref b :: As).toArray, t, U', L, hT, X', hL, e1, e2, hq, fun target h => hstep₁ _ fun acts => by rw [doInvoke_state]; exact hsteps.trans h⟩
/-- what text and sheet ask, at a call of the law -/
theorem pS_law {σ : Nat × Nat × Value} {av : List Value} (hL : LW D L LM s x y H locs) (hK : KK D s) (hSS : SS σ (A0l s) s) : ∀ U : State, U.heap = H → s.WarmedH U.vm → va_Pc av (pS D (cfC D L x) (ACl s LM) σ) av.toArray U := fun U hU hW => ⟨rfl, by rw [hU]; exact hL.1, KK.warm hW hK, (SS.warm hSS hW (by rw [hU]; exact hL.2.2.1)).narrow (fun _ z => z.1)⟩
theorem pN_law {z : Value × Value} {av : List Value} (hL : LW D L LM s x y H locs) (hK : KK D s) (hX : NX z (A0l s) s) : ∀ U : State, U.heap = H → s.WarmedH U.vm → va_Pc av (pN D (cfC D L x) (ACl s LM) z) av.toArray U := fun U hU hW => ⟨rfl, by rw [hU]; exact hL.1, KK.warm hW hK, (NX.warm hX hW (by rw [hU]; exact hL.2.2.1)).narrow (fun _ z => z.1) (fun q hq => ⟨Nat.le_trans hL.2.2.1.1 (by rw [← hU]; exact hq), fun i hi e => by
    have := hL.lm i hi
    rw [hU] at hq
    omega⟩)⟩
end LROWS
theorem lg_self (a : Int64) : lg_cmp a a = 0 := by simp [lg_cmp]
theorem gt_l {a i : Nat} (ha : a < 1000) (hi : i < 1000) : nI a - 6 < nI i ↔ a < i + 6 := by
  have sub : (nI a - 6).toInt = (a : Int) - 6 := by
    rw [show (6 : Int32) = nI 6 from rfl, Int32.toInt_sub, nI_toInt (by omega), nI_toInt (by omega)]
    rw [Int.bmod_def]
    show (if ((a : Int) - (6 : Nat)) % 4294967296 < (4294967296 + 1) / 2 then _ else _) = _
    split <;> omega
  rw [Int32.lt_iff_toInt_lt, sub, nI_toInt (by omega)]
  omega
