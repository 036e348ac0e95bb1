/-! the classes, the tables' facts that ride from method to method, worlds of numbered cells, calls -/
abbrev clA : List vw_C := [(RX0, TX0, 11), (RX1, TX1, 7), (RX2, TX2, 8), (RX3, TX3, 6), (RX4, TX4, 7), (RX5, TX5, 1), (RX6, TX6, 2), (RX7, TX7, 3), (RX8, TX8, 3), (RX9, TX9, 4), (RX10, TX10, 5), (RX11, TX11, 3), (RX12, TX12, 4), (RX13, TX13, 18)]
abbrev tyA (D : va_G) : List (ClassId × FieldType) := [(D.1 100, .int), (D.1 101, .byte), (D.1 102, .short), (D.1 103, .array .int), (D.1 104, .object RX5)]
def nwF : List (String × Nat × String × String × String) := [("LeftGloves", 119, "LeftGloves$Refusal", "finding", "I"), ("LeftGloves$Reader", 112, "LeftGloves$World", "list", "[I"), ("LeftGloves", 196, "LeftGloves$World", "list", "[I"), ("LeftGloves$Reader", 97, "LeftGloves$World", "gloves", "I"), ("LeftGloves", 127, "LeftGloves$World", "gloves", "I"), ("LeftGloves$Glove", 27, "LeftGloves$World", "glove", "[[I"), ("LeftGloves$Reader", 93, "LeftGloves$World", "glove", "[[I"), ("LeftGloves", 114, "LeftGloves$World", "glove", "[[I"), ("LeftGloves", 174, "LeftGloves$World", "gone", "I"), ("LeftGloves", 184, "LeftGloves$World", "day", "I"), ("LeftGloves", 330, "LeftGloves$World", "z", "I"), ("LeftGloves", 353, "LeftGloves$World", "holds", "[I"), ("LeftGloves", 336, "LeftGloves$Reader", "tape", "[B"), ("LeftGloves", 342, "LeftGloves$Reader", "told", "LLeftGloves$World;"), ("LeftGloves", 340, "LeftGloves$Reader", "length", "I"), ("LeftGloves", 350, "LeftGloves$Reader", "begin", "I"), ("LeftGloves", 110, "LeftGloves$Slot", "thing", "Ljava/lang/Object;"), ("LeftGloves$Double", 19, "LeftGloves", "d", "LLeftGloves$World;"), ("LeftGloves$Glove", 23, "LeftGloves", "d", "LLeftGloves$World;")]
def nwM : List (String × Nat × MethodName) := [("LeftGloves", 71, ⟨"LeftGloves$Reader", "<init>", "()V"⟩), ("LeftGloves$World", 27, ⟨"LeftGloves", "saying", "(III)I"⟩), ("LeftGloves", 105, ⟨"LeftGloves$Slot", "<init>", "()V"⟩), ("LeftGloves$World", 51, ⟨"LeftGloves", "has", "(II)Z"⟩), ("LeftGloves$World", 59, ⟨"LeftGloves", "roomOf", "(I)I"⟩), ("LeftGloves$World", 63, ⟨"LeftGloves", "topicOf", "(I)I"⟩), ("LeftGloves$World", 66, ⟨"LeftGloves", "ones", "(I)I"⟩), ("LeftGloves$Reader", 33, ⟨"LeftGloves", "in", "(III)Z"⟩), ("LeftGloves$Reader", 116, ⟨"LeftGloves", "saying", "(III)I"⟩)]
def nwC : List (String × String) := [("LeftGloves$Refusal", "LeftGloves$Refusal"), ("LeftGloves$Wrong", "LeftGloves$Wrong"), ("LeftGloves$Burnt", "LeftGloves$Glove"), ("LeftGloves$Double", "LeftGloves$Glove"), ("LeftGloves$Kidskin", "LeftGloves$Glove"), ("LeftGloves$Lady", "LeftGloves$Glove"), ("LeftGloves$Mitten", "LeftGloves$Glove"), ("LeftGloves$Stiff", "LeftGloves$Glove"), ("LeftGloves$Double", "LeftGloves$Kidskin"), ("LeftGloves$Burnt", "LeftGloves$Mitten"), ("LeftGloves$Lady", "LeftGloves$Mitten"), ("LeftGloves$Burnt", "LeftGloves$Lady")]
def nwN : List (String × String) := [("LeftGloves", "LeftGloves$Glove"), ("LeftGloves", "LeftGloves$Refusal"), ("LeftGloves", "LeftGloves$Wrong"), ("LeftGloves", "[B"), ("LeftGloves", "[S"), ("LeftGloves$Burnt", "LeftGloves$Refusal"), ("LeftGloves$Burnt", "LeftGloves$Wrong"), ("LeftGloves$Burnt", "[B"), ("LeftGloves$Burnt", "[S"), ("LeftGloves$Double", "LeftGloves$Refusal"), ("LeftGloves$Double", "LeftGloves$Wrong"), ("LeftGloves$Double", "[B"), ("LeftGloves$Double", "[S"), ("LeftGloves$Glove", "LeftGloves$Refusal"), ("LeftGloves$Glove", "LeftGloves$Wrong"), ("LeftGloves$Glove", "[B"), ("LeftGloves$Glove", "[S"), ("LeftGloves$Kidskin", "LeftGloves$Refusal"), ("LeftGloves$Kidskin", "LeftGloves$Wrong"), ("LeftGloves$Kidskin", "[B"), ("LeftGloves$Kidskin", "[S"), ("LeftGloves$Lady", "LeftGloves$Refusal"), ("LeftGloves$Lady", "LeftGloves$Wrong"), ("LeftGloves$Lady", "[B"), ("LeftGloves$Lady", "[S"), ("LeftGloves$Mitten", "LeftGloves$Refusal"), ("LeftGloves$Mitten", "LeftGloves$Wrong"), ("LeftGloves$Mitten", "[B"), ("LeftGloves$Mitten", "[S"), ("LeftGloves$Reader", "LeftGloves$Glove"), ("LeftGloves$Reader", "LeftGloves$Refusal"), ("LeftGloves$Reader", "LeftGloves$Wrong"), ("LeftGloves$Reader", "[B"), ("LeftGloves$Reader", "[S"), ("LeftGloves$Refusal", "LeftGloves$Glove"), ("LeftGloves$Refusal", "LeftGloves$Wrong"), ("LeftGloves$Refusal", "[B"), ("LeftGloves$Refusal", "[S"), ("LeftGloves$Slot", "LeftGloves$Glove"), ("LeftGloves$Slot", "LeftGloves$Refusal"), ("LeftGloves$Slot", "LeftGloves$Wrong"), ("LeftGloves$Slot", "[B"), ("LeftGloves$Slot", "[S"), ("LeftGloves$Stiff", "LeftGloves$Refusal"), ("LeftGloves$Stiff", "LeftGloves$Wrong"), ("LeftGloves$Stiff", "[B"), ("LeftGloves$Stiff", "[S"), ("LeftGloves$World", "LeftGloves$Glove"), ("LeftGloves$World", "LeftGloves$Refusal"), ("LeftGloves$World", "LeftGloves$Wrong"), ("LeftGloves$World", "[B"), ("LeftGloves$World", "[S"), ("LeftGloves$Wrong", "LeftGloves$Glove"), ("LeftGloves$Wrong", "LeftGloves$Refusal"), ("LeftGloves$Wrong", "[B"), ("LeftGloves$Wrong", "[S"), ("LeftGlovesModel", "LeftGloves$Glove"), ("LeftGlovesModel", "LeftGloves$Refusal"), ("LeftGlovesModel", "LeftGloves$Wrong"), ("LeftGlovesModel", "[B"), ("LeftGlovesModel", "[S"), ("[B", "LeftGloves$Glove"), ("[B", "[S"), ("[I", "LeftGloves$Glove"), ("[I", "[B"), ("[I", "[S"), ("[LLeftGloves$Slot;", "LeftGloves$Glove"), ("[LLeftGloves$Slot;", "[B"), ("[LLeftGloves$Slot;", "[S"), ("[S", "LeftGloves$Glove"), ("[S", "[B"), ("[[I", "LeftGloves$Glove"), ("[[I", "[B"), ("[[I", "[S"), ("java/lang/String", "LeftGloves$Glove"), ("java/lang/String", "[B"), ("java/lang/String", "[S"), ("java/lang/Throwable", "LeftGloves$Glove"), ("java/lang/Throwable", "[B"), ("java/lang/Throwable", "[S")]
/-! the default method half: a call that its class's heirs land in the interface -/
def hfN (vm : Vm) (c : ClassId) (name desc : String) (m : MethodId) : Prop := (∀ k d, nearestHeld vm c name desc = some (k, .default d) → d = m) ∧ ∀ k b, nearestHeld vm c name desc ≠ some (k, .thrower b)
def hfL (C : String) (U : State) : Prop := ∃ (c : ClassId) (r m : MethodId) (rm : Method), U.vm.findClass C = some c ∧ U.methodFound? "LeftGloves$Mitten" "half" "(I)I" = some r ∧ U.methodNamed? ⟨"LeftGloves$Hears", "half", "(I)I"⟩ = some m ∧ U.vm.method? r = some rm ∧ selectMethod {} U.vm c r = .method m ∧ (∃ mk, U.vm.classes[m.cls]? = some mk ∧ mk.isInterface = true) ∧ hfN U.vm c rm.name rm.desc m
def HF (U : State) : Prop := va_Nw (.methodLink "LeftGloves$Mitten" 32 ⟨"LeftGloves$Mitten", "half", "(I)I"⟩) U ∧ va_Nw (.sameMethod "LeftGloves$Mitten" "LeftGloves$Hears" "half" "(I)I") U ∧ hfL "LeftGloves$Mitten" U ∧ hfL "LeftGloves$Lady" U ∧ hfL "LeftGloves$Burnt" U
theorem hf_any {vm vm' : Vm} (h : vm.Alike vm') (f : Class → Bool) (hf : ∀ k : Class, f k.bare = f k) (c : ClassId) : (vm'.classes[c]?).any f = (vm.classes[c]?).any f := by
  cases hk : vm.classes[c]? with
  | none => rw [h.none hk]
  | some k =>
    obtain ⟨k', hk', he⟩ := h.2.2 _ _ hk
    rw [hk', Option.any_some, Option.any_some, ← hf k', Class.bare_of he, hf]
theorem hf_near {vm vm' : Vm} (h : vm.Alike vm') (c : ClassId) (name desc : String) : nearestHeld vm' c name desc = nearestHeld vm c name desc := by
  have a1 : superinterfaceMethods vm' = superinterfaceMethods vm := by rw [← superinterfaceMethods_bare vm', h.bare_eq, superinterfaceMethods_bare]
  have a2 : maximallySpecific vm' = maximallySpecific vm := by rw [← maximallySpecific_bare vm', h.bare_eq, maximallySpecific_bare]
  have a3 := fun k => hf_any h (·.isInterface) (fun _ => rfl) k
  have a4 := fun k => hf_any h (fun x => x.methods.any fun m => !m.isAbstract && !m.isStatic) (fun _ => rfl) k
  have a5 := fun (g : ClassId → Bool) k => hf_any h (fun x => x.interfaces.any g) (fun _ => rfl) k
  simp only [nearestHeld, held, h.superclasses, h.declaredIn, h.superinterfaces, h.method?, a1, a2, a3, a4, a5]
theorem hfL.alike {C : String} {s U : State} (h : s.vm.Alike U.vm) (hL : hfL C s) : hfL C U := by
  obtain ⟨c, r, m, rm, h1, h2, h3, h4, h5, ⟨mk, h6, h7⟩, h8⟩ := hL
  obtain ⟨mk', g6, ge⟩ := h.2.2 _ _ h6
  refine ⟨c, r, m, rm, by rw [h.findClass]; exact h1, ?_, ?_, by rw [h.method?]; exact h4, by rw [h.selectMethod]; exact h5, ⟨mk', g6, by rw [ge]; exact h7⟩, ?_⟩
  · exact (State.methodFound?_setVm h _ _ _).trans h2
  · exact (State.methodNamed?_setVm h _).trans h3
  · unfold hfN; rw [hf_near h]; exact h8
theorem HF.warm {s U : State} (hW : s.WarmedH U.vm) (h : HF s) : HF U :=
  ⟨word_at hW (Or.inl (by first | rfl | simp [Cond.onTables, Cond.keeps, Cond.steady])) h.1, word_at hW (Or.inl (by first | rfl | simp [Cond.onTables, Cond.keeps, Cond.steady])) h.2.1, h.2.2.1.alike hW.alike, h.2.2.2.1.alike hW.alike, h.2.2.2.2.alike hW.alike⟩
theorem HF.same {s U : State} (hv : s.vm = U.vm) (h : HF s) : HF U := by
  have ha : s.vm.Alike U.vm := by rw [hv]; exact Vm.Alike.refl _
  exact ⟨va_Nw.same rfl hv h.1, va_Nw.same rfl hv h.2.1, h.2.2.1.alike ha, h.2.2.2.1.alike ha, h.2.2.2.2.alike ha⟩
/-- the start's word -/
theorem hfL.of {args : Array Value} {U : State} {C : String} (h : (Cond.landsInDefault C ⟨"LeftGloves$Mitten", "half", "(I)I"⟩ ⟨"LeftGloves$Hears", "half", "(I)I"⟩).before args U = true) : hfL C U := by
  simp only [Cond.before, Cond.holds, Cond.value] at h
  cases h1 : U.vm.findClass C with
  | none => simp [h1] at h
  | some c =>
    cases h2 : U.methodFound? "LeftGloves$Mitten" "half" "(I)I" with
    | none => simp [h1, h2] at h
    | some r =>
      cases h3 : U.methodNamed? ⟨"LeftGloves$Hears", "half", "(I)I"⟩ with
      | none => simp [h1, h2, h3] at h
      | some m =>
        cases h4 : U.vm.method? r with
        | none => simp [h1, h2, h3, h4] at h
        | some rm =>
          simp only [h1, h2, h3, h4, Option.map_some, beq_iff_eq, Option.some.injEq] at h
          split at h
          · rename_i m' hs
            simp only [Bool.and_eq_true, decide_eq_true_eq, Option.any_eq_true] at h
            obtain ⟨⟨⟨⟨e, mk, hmk, hi⟩, -⟩, -⟩, hn⟩ := h
            subst e
            refine ⟨c, r, m', rm, by first | rfl | exact h1, by first | rfl | exact h2, by first | rfl | exact h3, h4, hs, ⟨mk, hmk, hi⟩, fun k d hk => ?_, fun k b hk => ?_⟩
            · rw [hk] at hn; simpa using hn
            · rw [hk] at hn; cases hn
          · cases h
/-- what the tables say all through a run, beside lw_all -/
def KK (D : va_G) (U : State) : Prop := va_K D clA (tyA D) U ∧ (∀ q ∈ nwF, va_Nw (.fieldLinkNest q.1 q.2.1 q.2.2.1 q.2.2.2.1 q.2.2.2.2 "LeftGloves") U) ∧ ((∀ q ∈ nwM, va_Nw (.methodLinkNest q.1 q.2.1 q.2.2 "LeftGloves") U) ∧ HF U) ∧ (∀ q ∈ nwC, va_Nw (.castable q.1 q.2) U) ∧ (∀ q ∈ nwN, va_Nc q.1 q.2 U)
theorem KK.warm {D : va_G} {s U : State} (hW : s.WarmedH U.vm) (h : KK D s) : KK D U :=
  ⟨va_K.moved hW.alike h.1, fun q hq => va_Nw.warmF hW (h.2.1 q hq), ⟨fun q hq => va_Nw.warmM hW (h.2.2.1.1 q hq), HF.warm hW h.2.2.1.2⟩, fun q hq => va_Nw.warmC hW (h.2.2.2.1 q hq), fun q hq => va_Nc.moved hW.alike (h.2.2.2.2 q hq)⟩
theorem KK.same {D : va_G} {s U : State} (hW : s.vm = U.vm) (h : KK D s) : KK D U := by
  have ha : s.vm.Alike U.vm := by rw [hW]; exact Vm.Alike.refl _
  exact ⟨va_K.moved ha h.1, fun q hq => va_Nw.same rfl hW (h.2.1 q hq), ⟨fun q hq => va_Nw.same rfl hW (h.2.2.1.1 q hq), HF.same hW h.2.2.1.2⟩, fun q hq => va_Nw.same rfl hW (h.2.2.2.1 q hq), fun q hq => va_Nc.moved ha (h.2.2.2.2 q hq)⟩
theorem KK.F {D : va_G} {s : State} (h : KK D s) (k : Nat) {q : String × Nat × String × String × String} (hq : nwF[k]? = some q) {args : Array Value} : (Cond.fieldLinkNest q.1 q.2.1 q.2.2.1 q.2.2.2.1 q.2.2.2.2 "LeftGloves").before args s = true := va_Nw.use rfl (h.2.1 q (List.mem_of_getElem? hq))
theorem KK.M {D : va_G} {s : State} (h : KK D s) (k : Nat) {q : String × Nat × MethodName} (hq : nwM[k]? = some q) : va_Nw (.methodLinkNest q.1 q.2.1 q.2.2 "LeftGloves") s := h.2.2.1.1 q (List.mem_of_getElem? hq)
/-- a world of numbered cells: each cell that the map names stands in the heap; their addresses are apart and lie in A -/
abbrev cmap : Type := Nat → Option (Nat × va_E)
def hw (D : va_G) (cf : cmap) (A : Nat → Prop) (H : Heap) : Prop := (∀ (i : Nat) (a : Nat) (e : va_E), cf i = some (a, e) → va_at D clA (a, e) H ∧ A a) ∧ ∀ (i j : Nat) (a : Nat) (e e' : va_E), cf i = some (a, e) → cf j = some (a, e') → i = j
theorem hw.one {D : va_G} {cf : cmap} {A : Nat → Prop} {H : Heap} (h : hw D cf A H) {i a : Nat} {e : va_E} (he : cf i = some (a, e)) : va_P D clA [(a, e)] H := by
  intro k q hk
  match k, hk with
  | 0, hk => cases hk; exact (h.1 i a e he).1
  | k + 1, hk => simp at hk
theorem hw.kept {D : va_G} {cf : cmap} {A : Nat → Prop} {H H1 : Heap} (h : hw D cf A H) (hq : ∀ (i a : Nat) (e : va_E), cf i = some (a, e) → H1[a]? = H[a]?) : hw D cf A H1 :=
  ⟨fun i a e he => ⟨(h.1 i a e he).1.kept (hq i a e he), (h.1 i a e he).2⟩, h.2⟩
theorem hw.lt {D : va_G} {cf : cmap} {A : Nat → Prop} {H : Heap} (h : hw D cf A H) {i a : Nat} {e : va_E} (he : cf i = some (a, e)) : a < H.size := (h.1 i a e he).1.lt
theorem hw.set {D : va_G} {cf cf' : cmap} {A : Nat → Prop} {H H1 : Heap} {i a : Nat} {e e0 : va_E} (h : hw D cf A H) (he : cf i = some (a, e0)) (hn : va_at D clA (a, e) H1) (oq : ∀ q : Nat, q ≠ a → H1[q]? = H[q]?) (hc : ∀ j, cf' j = if j = i then some (a, e) else cf j) : hw D cf' A H1 := by
  refine ⟨fun j b f hj => ?_, fun j k b f f' hj hk => ?_⟩
  · rw [hc] at hj
    by_cases hji : j = i
    · rw [if_pos hji] at hj
      cases hj
      exact ⟨hn, (h.1 i _ _ he).2⟩
    · rw [if_neg hji] at hj
      obtain ⟨h1, h2⟩ := h.1 j b f hj
      exact ⟨h1.kept (oq b (fun z => hji (by subst z; exact h.2 j i _ _ _ hj he))), h2⟩
  · rw [hc] at hj hk
    by_cases hji : j = i
    · by_cases hki : k = i
      · rw [hji, hki]
      · rw [if_pos hji] at hj
        rw [if_neg hki] at hk
        cases hj
        rw [hji]
        exact (h.2 k i _ _ _ hk he).symm
    · rw [if_neg hji] at hj
      by_cases hki : k = i
      · rw [if_pos hki] at hk
        cases hk
        rw [hki]
        exact h.2 j i _ _ _ hj he
      · rw [if_neg hki] at hk
        exact h.2 j k _ _ _ hj hk
def pI (D : va_G) (cf : cmap) (A : Nat → Prop) : State → Prop := fun U => hw D cf A U.heap ∧ KK D U
def pT : State → Prop := fun _ => True
theorem pI_blind {D : va_G} {cf : cmap} {A : Nat → Prop} {av : List Value} : FrameBlind (va_Pc av (pI D cf A)) := fun a U g mk q => ⟨q.1, q.2.1, KK.same (rfl : U.vm = (U.calling g mk a).vm) q.2.2⟩
theorem pT_blind {av : List Value} : FrameBlind (va_Pc av pT) := fun a U g mk q => q
theorem pI_pre {D : va_G} {cf : cmap} {A : Nat → Prop} {av : List Value} {s : State} {H : Heap} (hI : hw D cf A H) (hK : KK D s) : ∀ U : State, U.heap = H → s.WarmedH U.vm → va_Pc av (pI D cf A) av.toArray U := fun U hU hW => ⟨rfl, by rw [hU]; exact hI, KK.warm hW hK⟩
theorem pT_pre {av : List Value} {s : State} {H : Heap} : ∀ U : State, U.heap = H → s.WarmedH U.vm → va_Pc av pT av.toArray U := fun _ _ _ => ⟨rfl, trivial⟩
/-- it only reads: the answer, the heap as it was -/
def rQ (v : Value) : Array Value → State → Outcome → State → Prop := fun _ st oc t => oc = .returned (some v) ∧ t.heap = st.heap
/-- the answer, the world behind it, and nothing else changed -/
def nQ (D : va_G) (cf : cmap) (A : Nat → Prop) (ov : Option Value) : Array Value → State → Outcome → State → Prop := fun _ st oc t => oc = .returned ov ∧ hw D cf A t.heap ∧ va_F A st t
abbrev nof : Addr → Prop := fun _ => False
section CALLS
variable {p : Program} {l : Launch} {e : Env} {R : Room} {s : State} {m : MethodId} {args : Array Value} {below : List Frame} {meth : Method} {c : Code} {H H0 : Heap} {locs : List Loc} {cells slots : Nat} {Q : State → Prop}
variable {pc : Nat} {ls : Array Slot} {rest st0 : List Value} {a : Array Value} {A : Nat → Prop} {D : va_G} {cf cf' : cmap} {v : Value} {ov : Option Value} {free : Addr → Prop}
theorem c_r (hr : va_Run p l e R s m args below meth c H locs cells slots 0 0 (F0 m pc ls st0) rest (rQ v a) nof)
    (kk : W p l e R s m args below meth c H locs cells slots Q (F0 m (pc + 3) ls (v :: rest))) : W p l e R s m args below meth c H locs cells slots Q (F0 m pc ls st0) := by
  intro T hT X
  obtain ⟨w, st₀, t, T', L, h0, X', hL, e1, e2, ⟨hv, hh⟩, st⟩ := hr T hT X
  cases hv
  have hLn : L = [] := by
    cases L with
    | nil => rfl
    | cons q L => exact absurd (hL q List.mem_cons_self) (fun h => h)
  subst hLn
  rw [List.append_nil] at X'
  obtain ⟨t2, a1, b1⟩ := kk T' (by rw [e1, hh, h0]) X'
  exact ⟨t2, st t2 a1, b1⟩
theorem c_m (hr : va_Run p l e R s m args below meth c H locs cells slots 0 0 (F0 m pc ls st0) rest (nQ D cf' A ov a) A) (hS : va_S A H0 H locs)
    (kk : ∀ (H1 : Heap) (locs1 : List Loc), hw D cf' A H1 → va_S A H0 H1 locs1 → W p l e R s m args below meth c H1 locs1 cells slots Q (F0 m (pc + 3) ls (ov.toList ++ rest))) : W p l e R s m args below meth c H locs cells slots Q (F0 m pc ls st0) := by
  intro T hT X
  obtain ⟨w, st₀, t, T', L, h0, X', hL, e1, e2, ⟨hv, hI, hz, hk⟩, st⟩ := hr T hT X
  cases hv
  rw [h0] at hz hk
  obtain ⟨t2, a1, b1⟩ := kk T'.heap (locs ++ L) (by rw [e1]; exact hI) ⟨Nat.le_trans hS.1 (by rw [e1]; exact hz), fun q h1 h2 => by rw [e1, hk q (Nat.lt_of_lt_of_le h1 hS.1) h2]; exact hS.2.1 q h1 h2, fun q hq => by
      rcases List.mem_append.mp hq with h | h
      · exact hS.2.2 q h
      · exact hL q h⟩ T' rfl X'
  exact ⟨t2, st t2 a1, b1⟩
variable {y : MethodName} {bytes cc : ByteArray} {maxL nL n index : Nat} {ret : Option FieldType} {ws : List Cond} {rm : Room} {Qc : Array Value → State → Outcome → State → Prop} {own C host : String} {b i ci : Nat} {As : List Value} {fs : List Value} {q : vw_C}
theorem hw.recv (hI : hw D cf A H) (hK : KK D s) (he : cf i = some (b, .inr (ci, fs))) (hc : clA[ci]? = some q) : ∃ cellB : Cell, H[b]? = some cellB ∧ cellB.vm.isStatics = false ∧ s.vm.findClass q.1 = some cellB.cls := va_recv hK.1 (hI.one he) hc (q0 := 0) rfl
/-- a method of an object of the world -/
theorem k_V (S : CallFix p m c cc nL s args lw_all own) (hM : Met l y ws rm (va_Pc (.ref b :: As) (pI D cf A)) Qc 0 0 free) (cw : CallW R s args own C index y bytes maxL ret ws rm 0 0 n) (hI : hw D cf A H) (hK : KK D s) (hr : ∃ cellB : Cell, H[b]? = some cellB ∧ cellB.vm.isStatics = false ∧ s.vm.findClass C = some cellB.cls)
    (hn : As.length = n) (hsize : ls.size = nL) (hstack : st0 = As.reverse ++ .ref b :: rest) (hW : (rest.map fun v => v.category).sum ≤ 8) (hdg : decode cc pc = .ok (.invokevirtual index, 3)) (hf : cells ≤ R.cells ∧ slots ≤ R.slots) :
    va_Run p l e R s m args below meth c H locs cells slots 0 0 (F0 m pc ls st0) rest (Qc (Value.ref b :: As).toArray) free :=
  va_runV S hM cw ⟨pI_blind, hr, pI_pre hI hK⟩ rfl hn hsize hstack (lv_room hW) hdg hf
/-- a static method that takes no world -/
theorem k_S (S : CallFix p m c cc nL s args lw_all own) (hM : Met l y ws rm (va_Pc As pT) Qc 0 0 free) (cw : CallB R s args own index y bytes maxL ret ws rm 0 0 n ∧ (Cond.static y).before args s = true)
    (hn : As.length = n) (hsize : ls.size = nL) (hstack : st0 = As.reverse ++ rest) (hW : (rest.map fun v => v.category).sum ≤ 8) (hdg : decode cc pc = .ok (.invokestatic index, 3)) (hf : cells ≤ R.cells ∧ slots ≤ R.slots) :
    va_Run p l e R s m args below meth c H locs cells slots 0 0 (F0 m pc ls st0) rest (Qc As.toArray) free :=
  va_runS S hM cw ⟨pT_blind, pT_pre⟩ rfl hn hsize hstack (lv_room hW) hdg hf
/-- a static method that takes the world -/
theorem k_SI (S : CallFix p m c cc nL s args lw_all own) (hM : Met l y ws rm (va_Pc As (pI D cf A)) Qc 0 0 free) (cw : CallB R s args own index y bytes maxL ret ws rm 0 0 n ∧ (Cond.static y).before args s = true) (hI : hw D cf A H) (hK : KK D s)
    (hn : As.length = n) (hsize : ls.size = nL) (hstack : st0 = As.reverse ++ rest) (hW : (rest.map fun v => v.category).sum ≤ 8) (hdg : decode cc pc = .ok (.invokestatic index, 3)) (hf : cells ≤ R.cells ∧ slots ≤ R.slots) :
    va_Run p l e R s m args below meth c H locs cells slots 0 0 (F0 m pc ls st0) rest (Qc As.toArray) free :=
  va_runS S hM cw ⟨pI_blind, pI_pre hI hK⟩ rfl hn hsize hstack (lv_room hW) hdg hf
/-- a private static method of a nest mate that takes no world -/
theorem k_SN (S : CallFix p m c cc nL s args lw_all own) (hM : Met l y ws rm (va_Pc As pT) Qc 0 0 free) (cw : va_CN R s args own index y host bytes maxL ret ws rm 0 0 n ∧ (Cond.static y).before args s = true ∧ True)
    (hn : As.length = n) (hsize : ls.size = nL) (hstack : st0 = As.reverse ++ rest) (hW : (rest.map fun v => v.category).sum ≤ 8) (hdg : decode cc pc = .ok (.invokestatic index, 3)) (hf : cells ≤ R.cells ∧ slots ≤ R.slots) :
    va_Run p l e R s m args below meth c H locs cells slots 0 0 (F0 m pc ls st0) rest (Qc As.toArray) free :=
  va_runSN S hM cw ⟨pT_blind, pT_pre⟩ rfl hn hsize hstack (lv_room hW) hdg hf
end CALLS
section ROWS
variable {p : Program} {l : Launch} {e : Env} {R : Room} {s : State} {m : MethodId} {args : Array Value} {below : List Frame} {meth : Method} {c : Code} {H H0 : Heap} {locs : List Loc} {cells slots : Nat} {Q : State → Prop}
variable {cc : ByteArray} {pc : Nat} {ls : Array Slot} {rest : List Value} {A : Nat → Prop} {D : va_G} {cf cf' : cmap} {a : Nat}
theorem r_get (hexec : p.tables.exec = Jvm.exec) (hb : c.code = cc) {own ref C : String} {T : u_T} {N ci index : Nat} (hts : ∀ w ∈ lw_all, w.before args s = true) (hin : ∀ w ∈ u_ws C T N, w ∈ lw_all) (hown : s.vm.findClass own = some m.cls) (hK : KK D s) (hI : hw D cf A H) {i : Nat} {fs : List Value} (he : cf i = some (a, .inr (ci, fs))) (hc : clA[ci]? = some (C, T, N)) (k : Nat) (hk : k < N) (hlink : (Cond.fieldLink own index ref (T k).2.1 (T k).2.2.1).before args s = true) (hsame : ∀ x, s.fieldFound? (T k).1 (T k).2.1 (T k).2.2.1 = some x → s.fieldFound? ref (T k).2.1 (T k).2.2.1 = some x) {v : Value} (hv : fs[k]? = some v) (hdg : decode cc pc = .ok (.getfield index, 3))
    (kk : W p l e R s m args below meth c H locs cells slots Q (F0 m (pc + 3) ls (v :: rest))) : W p l e R s m args below meth c H locs cells slots Q (F0 m pc ls (.ref a :: rest)) :=
  va_get hexec hb hts hin hown hK.1 (hI.one he) 0 rfl hc k hk hlink hsame hv hdg kk
theorem r_getN (hexec : p.tables.exec = Jvm.exec) (hb : c.code = cc) {own ref C host : String} {T : u_T} {N ci index : Nat} (hts : ∀ w ∈ lw_all, w.before args s = true) (hin : ∀ w ∈ u_ws C T N, w ∈ lw_all) (hown : s.vm.findClass own = some m.cls) (hK : KK D s) (hI : hw D cf A H) {i : Nat} {fs : List Value} (he : cf i = some (a, .inr (ci, fs))) (hc : clA[ci]? = some (C, T, N)) (k : Nat) (hk : k < N) (hlink : (Cond.fieldLinkNest own index ref (T k).2.1 (T k).2.2.1 host).before args s = true) (hsame : ∀ x, s.fieldFound? (T k).1 (T k).2.1 (T k).2.2.1 = some x → s.fieldFound? ref (T k).2.1 (T k).2.2.1 = some x) {v : Value} (hv : fs[k]? = some v) (hdg : decode cc pc = .ok (.getfield index, 3))
    (kk : W p l e R s m args below meth c H locs cells slots Q (F0 m (pc + 3) ls (v :: rest))) : W p l e R s m args below meth c H locs cells slots Q (F0 m pc ls (.ref a :: rest)) :=
  va_getN hexec hb hts hin hown hK.1 (hI.one he) 0 rfl hc k hk hlink hsame hv hdg kk
theorem r_put (hexec : p.tables.exec = Jvm.exec) (hb : c.code = cc) {own ref C : String} {T : u_T} {N ci index : Nat} (hts : ∀ w ∈ lw_all, w.before args s = true) (hin : ∀ w ∈ u_ws C T N, w ∈ lw_all) (ty0 : Nat → FieldType) (hty : ∀ k, k < N → parseFieldDescriptor (T k).2.2.1 = some (ty0 k)) (hnm : ∀ a, a < N → ∀ b, b < N → a ≠ b → (T a).2.1 ≠ (T b).2.1) (hown : s.vm.findClass own = some m.cls) (hK : KK D s) (hI : hw D cf A H) (hS0 : va_S A H0 H locs) {i : Nat} {fs : List Value} (he : cf i = some (a, .inr (ci, fs))) (hc : clA[ci]? = some (C, T, N)) (k : Nat) (hk : k < N) (hlink : (Cond.fieldLink own index ref (T k).2.1 (T k).2.2.1).before args s = true) (hsame : ∀ x, s.fieldFound? (T k).1 (T k).2.1 (T k).2.2.1 = some x → s.fieldFound? ref (T k).2.1 (T k).2.2.1 = some x) (hfin : (T k).2.2.2 = false) {ty : FieldType} {v : Value} (hd : parseFieldDescriptor (T k).2.2.1 = some ty) (hn : narrow ty v = v) (hfit : fits ty v = true) (hl : k < fs.length) (hset : ∀ j, cf' j = if j = i then some (a, .inr (ci, fs.set k v)) else cf j)
    (hdg : decode cc pc = .ok (.putfield index, 3)) (kk : ∀ (H1 : Heap) (locs1 : List Loc), hw D cf' A H1 → va_S A H0 H1 locs1 → W p l e R s m args below meth c H1 locs1 cells slots Q (F0 m (pc + 3) ls rest)) : W p l e R s m args below meth c H locs cells slots Q (F0 m pc ls (v :: .ref a :: rest)) := by
  have hap := va_apart (own := own) hts hin ty0 hty hnm hK.1 hc
  obtain ⟨⟨r, h1, cell, q1, q2, q3, q4⟩, hAa⟩ := hI.1 i _ _ he
  have hr : r = (C, T, N) := Option.some.inj (h1.symm.trans hc)
  subst hr
  obtain ⟨hS, hfc, kC, hkC, hkind⟩ := hK.1.1 ci _ hc
  obtain ⟨cf0, kf, fi, f, hi, hsl⟩ := hS k hk
  have hlay := hts _ (hin _ (u_in_lay hk))
  unfold u_lay at hlay
  rw [if_neg (by rw [hfin]; decide)] at hlay
  have hst := (u_facts hfc hkC (u_lays hts hin hk) hi).1
  have h6 := u_store hfc hkC hkind hlay hi hd hn hfit
  refine W.putK hexec hb (f := f) ⟨hown, hlink, ⟨_, _, _, hsame _ hi⟩, hst⟩ (by rw [q2]; exact h6) q1 q3 (by rw [hsl]; exact k2_hasslot (q4 k hk)) rfl rfl hdg fun H' e1 e2 e3 => ?_
  rw [hsl] at e1 ⊢
  exact kk H' _ (hI.set (e := .inr (ci, fs.set k v)) he ⟨_, hc, t_OB.to (V := updV (vp_V fs) k v) ⟨_, e1, q2, q3, t_set q4 hap hk v⟩ (fun j _ => vp_updV_set hl v j)⟩ e3 hset) (hS0.put e2 e3 hAa)
theorem r_putN (hexec : p.tables.exec = Jvm.exec) (hb : c.code = cc) {own ref C host : String} {T : u_T} {N ci index : Nat} (hts : ∀ w ∈ lw_all, w.before args s = true) (hin : ∀ w ∈ u_ws C T N, w ∈ lw_all) (ty0 : Nat → FieldType) (hty : ∀ k, k < N → parseFieldDescriptor (T k).2.2.1 = some (ty0 k)) (hnm : ∀ a, a < N → ∀ b, b < N → a ≠ b → (T a).2.1 ≠ (T b).2.1) (hown : s.vm.findClass own = some m.cls) (hK : KK D s) (hI : hw D cf A H) (hS0 : va_S A H0 H locs) {i : Nat} {fs : List Value} (he : cf i = some (a, .inr (ci, fs))) (hc : clA[ci]? = some (C, T, N)) (k : Nat) (hk : k < N) (hlink : (Cond.fieldLinkNest own index ref (T k).2.1 (T k).2.2.1 host).before args s = true) (hsame : ∀ x, s.fieldFound? (T k).1 (T k).2.1 (T k).2.2.1 = some x → s.fieldFound? ref (T k).2.1 (T k).2.2.1 = some x) (hfin : (T k).2.2.2 = false) {ty : FieldType} {v : Value} (hd : parseFieldDescriptor (T k).2.2.1 = some ty) (hn : narrow ty v = v) (hfit : fits ty v = true) (hl : k < fs.length) (hset : ∀ j, cf' j = if j = i then some (a, .inr (ci, fs.set k v)) else cf j)
    (hdg : decode cc pc = .ok (.putfield index, 3)) (kk : ∀ (H1 : Heap) (locs1 : List Loc), hw D cf' A H1 → va_S A H0 H1 locs1 → W p l e R s m args below meth c H1 locs1 cells slots Q (F0 m (pc + 3) ls rest)) : W p l e R s m args below meth c H locs cells slots Q (F0 m pc ls (v :: .ref a :: rest)) := by
  have hap := va_apart (own := own) hts hin ty0 hty hnm hK.1 hc
  obtain ⟨⟨r, h1, cell, q1, q2, q3, q4⟩, hAa⟩ := hI.1 i _ _ he
  have hr : r = (C, T, N) := Option.some.inj (h1.symm.trans hc)
  subst hr
  obtain ⟨hS, hfc, kC, hkC, hkind⟩ := hK.1.1 ci _ hc
  obtain ⟨cf0, kf, fi, f, hi, hsl⟩ := hS k hk
  have hlay := hts _ (hin _ (u_in_lay hk))
  unfold u_lay at hlay
  rw [if_neg (by rw [hfin]; decide)] at hlay
  have hst := (u_facts hfc hkC (u_lays hts hin hk) hi).1
  have h6 := u_store hfc hkC hkind hlay hi hd hn hfit
  refine va_WputK hexec hb (f := f) hown hlink (hsame _ hi) hst (by rw [q2]; exact h6) q1 q3 (by rw [hsl]; exact k2_hasslot (q4 k hk)) rfl rfl hdg fun H' e1 e2 e3 => ?_
  rw [hsl] at e1 ⊢
  exact kk H' _ (hI.set (e := .inr (ci, fs.set k v)) he ⟨_, hc, t_OB.to (V := updV (vp_V fs) k v) ⟨_, e1, q2, q3, t_set q4 hap hk v⟩ (fun j _ => vp_updV_set hl v j)⟩ e3 hset) (hS0.put e2 e3 hAa)
theorem r_iald (hexec : p.tables.exec = Jvm.exec) (hb : c.code = cc) (hK : KK D s) (hI : hw D cf A H) {i : Nat} {n : Nat} {f : Nat → Int32} (he : cf i = some (a, .inl (D.1 100, n, .inl f))) {j : Int32} (hin : vp_in j n) (hdg : decode cc pc = .ok (.iaload, 1))
    (kk : W p l e R s m args below meth c H locs cells slots Q (F0 m (pc + 1) ls (.int (f j.toNatClampNeg) :: rest))) : W p l e R s m args below meth c H locs cells slots Q (F0 m pc ls (.int j :: .ref a :: rest)) :=
  va_iald hexec hb hK.1 (hI.one he) 0 0 rfl rfl hin hdg kk
theorem r_bald (hexec : p.tables.exec = Jvm.exec) (hb : c.code = cc) (hK : KK D s) (hI : hw D cf A H) {i : Nat} {n : Nat} {f : Nat → Int32} (he : cf i = some (a, .inl (D.1 101, n, .inl f))) {j : Int32} (hin : vp_in j n) (hdg : decode cc pc = .ok (.baload, 1))
    (kk : W p l e R s m args below meth c H locs cells slots Q (F0 m (pc + 1) ls (.int (f j.toNatClampNeg) :: rest))) : W p l e R s m args below meth c H locs cells slots Q (F0 m pc ls (.int j :: .ref a :: rest)) :=
  va_bald hexec hb hK.1 (hI.one he) 0 1 rfl rfl hin hdg kk
theorem r_sald (hexec : p.tables.exec = Jvm.exec) (hb : c.code = cc) (hK : KK D s) (hI : hw D cf A H) {i : Nat} {n : Nat} {f : Nat → Int32} (he : cf i = some (a, .inl (D.1 102, n, .inl f))) {j : Int32} (hin : vp_in j n) (hdg : decode cc pc = .ok (.saload, 1))
    (kk : W p l e R s m args below meth c H locs cells slots Q (F0 m (pc + 1) ls (.int (f j.toNatClampNeg) :: rest))) : W p l e R s m args below meth c H locs cells slots Q (F0 m pc ls (.int j :: .ref a :: rest)) :=
  va_sald hexec hb hK.1 (hI.one he) 0 2 rfl rfl hin hdg kk
theorem r_alen (hexec : p.tables.exec = Jvm.exec) (hb : c.code = cc) (hK : KK D s) (hI : hw D cf A H) {i : Nat} {cA : ClassId} {x : vp_A} (he : cf i = some (a, .inl (cA, x))) (t0 : Nat) {ty : FieldType} (ht : (tyA D)[t0]? = some (cA, ty)) {v : Int32} (hv : Int32.ofNat x.1 = v) (hdg : decode cc pc = .ok (.arraylength, 1))
    (kk : W p l e R s m args below meth c H locs cells slots Q (F0 m (pc + 1) ls (.int v :: rest))) : W p l e R s m args below meth c H locs cells slots Q (F0 m pc ls (.ref a :: rest)) :=
  va_alen hexec hb hK.1 (hI.one he) 0 t0 rfl ht hv hdg kk
/-- a row of an array of int arrays -/
theorem r_aaldI (hexec : p.tables.exec = Jvm.exec) (hb : c.code = cc) (hK : KK D s) (hI : hw D cf A H) {i : Nat} {n : Nat} {f : Nat → Option Nat} (he : cf i = some (a, .inl (D.1 103, n, .inr (.inr (.inr (.inr f)))))) {j : Int32} (hin : vp_in j n) {b : Nat} (hf : f j.toNatClampNeg = some b) (hdg : decode cc pc = .ok (.aaload, 1))
    (kk : W p l e R s m args below meth c H locs cells slots Q (F0 m (pc + 1) ls (.ref b :: rest))) : W p l e R s m args below meth c H locs cells slots Q (F0 m pc ls (.int j :: .ref a :: rest)) := by
  have hlt : j.toNatClampNeg < n := Nat.not_le.mp fun q => hin (Or.inr q)
  exact W.aald (v := .ref b) (ty := .array .int) hexec hb (hI.1 i _ _ he).1 ((hK.1.2 3 _ rfl).1 n (fun j => va_rf (f j))) rfl (fun q => by cases q) (by show ¬ (j < 0 ∨ (arrV _ _ _).slots.size ≤ _); rw [arrV_size]; exact hin) (by show (arrV _ _ _).slots[_]? = _; rw [arrV_read _ _ hlt, hf]; rfl) rfl rfl hdg kk
/-- a Slot of an array of Slots -/
theorem r_aaldS (hexec : p.tables.exec = Jvm.exec) (hb : c.code = cc) (hK : KK D s) (hI : hw D cf A H) {i : Nat} {n : Nat} {f : Nat → Option Nat} (he : cf i = some (a, .inl (D.1 104, n, .inr (.inr (.inr (.inr f)))))) {j : Int32} (hin : vp_in j n) {b : Nat} (hf : f j.toNatClampNeg = some b) (hdg : decode cc pc = .ok (.aaload, 1))
    (kk : W p l e R s m args below meth c H locs cells slots Q (F0 m (pc + 1) ls (.ref b :: rest))) : W p l e R s m args below meth c H locs cells slots Q (F0 m pc ls (.int j :: .ref a :: rest)) :=
  va_aldq hexec hb hK.1 (hI.one he) 0 4 rfl rfl hin hdg (by rw [hf]; exact kk)
theorem r_iast (hexec : p.tables.exec = Jvm.exec) (hb : c.code = cc) (hK : KK D s) (hI : hw D cf A H) (hS : va_S A H0 H locs) {i : Nat} {n : Nat} {f : Nat → Int32} (he : cf i = some (a, .inl (D.1 100, n, .inl f))) {j : Int32} {x : Int32} (hin : vp_in j n) (hset : ∀ q, cf' q = if q = i then some (a, .inl (D.1 100, n, .inl (upd f j.toNatClampNeg x))) else cf q) (hdg : decode cc pc = .ok (.iastore, 1))
    (kk : ∀ (H1 : Heap) (locs1 : List Loc), hw D cf' A H1 → va_S A H0 H1 locs1 → W p l e R s m args below meth c H1 locs1 cells slots Q (F0 m (pc + 1) ls rest)) : W p l e R s m args below meth c H locs cells slots Q (F0 m pc ls (.int x :: .int j :: .ref a :: rest)) := by
  obtain ⟨hat, hAa⟩ := hI.1 i _ _ he
  refine W.iast hexec hb hat ((hK.1.2 0 _ rfl).1 n (fun j => .int (f j))) (fun q => by cases q) (by show ¬ (j < 0 ∨ (arrV _ _ _).slots.size ≤ _); rw [arrV_size]; exact hin) rfl rfl hdg fun H1 e z oq => ?_
  refine kk H1 _ (hI.set he ?_ oq hset) (hS.put z oq hAa)
  show H1[a]? = some (vp_cell _ _)
  rw [e]
  rw [vp_cell_i, vp_cell_i, arrV_store]
  congr 2
  funext q
  by_cases hq : q = j.toNatClampNeg
  · subst hq
    simp [updV, upd]
  · simp [updV, upd, hq]
theorem r_bast (hexec : p.tables.exec = Jvm.exec) (hb : c.code = cc) (hK : KK D s) (hI : hw D cf A H) (hS : va_S A H0 H locs) {i : Nat} {n : Nat} {f : Nat → Int32} (he : cf i = some (a, .inl (D.1 101, n, .inl f))) {j : Int32} {x : Int32} (hin : vp_in j n) (hset : ∀ q, cf' q = if q = i then some (a, .inl (D.1 101, n, .inl (upd f j.toNatClampNeg (vp_nar .byte x)))) else cf q) (hdg : decode cc pc = .ok (.bastore, 1))
    (kk : ∀ (H1 : Heap) (locs1 : List Loc), hw D cf' A H1 → va_S A H0 H1 locs1 → W p l e R s m args below meth c H1 locs1 cells slots Q (F0 m (pc + 1) ls rest)) : W p l e R s m args below meth c H locs cells slots Q (F0 m pc ls (.int x :: .int j :: .ref a :: rest)) := by
  obtain ⟨hat, hAa⟩ := hI.1 i _ _ he
  refine W.bast hexec hb hat ((hK.1.2 1 _ rfl).1 n (fun j => .int (f j))) (fun q => by cases q) (by show ¬ (j < 0 ∨ (arrV _ _ _).slots.size ≤ _); rw [arrV_size]; exact hin) rfl rfl hdg fun H1 e z oq => ?_
  refine kk H1 _ (hI.set he ?_ oq hset) (hS.put z oq hAa)
  show H1[a]? = some (vp_cell _ _)
  rw [e]
  rw [vp_cell_i, vp_cell_i, arrV_store]
  congr 2
  funext q
  by_cases hq : q = j.toNatClampNeg
  · subst hq
    simp [updV, upd, vp_nar]
    try rfl
  · simp [updV, upd, hq]
theorem r_sast (hexec : p.tables.exec = Jvm.exec) (hb : c.code = cc) (hK : KK D s) (hI : hw D cf A H) (hS : va_S A H0 H locs) {i : Nat} {n : Nat} {f : Nat → Int32} (he : cf i = some (a, .inl (D.1 102, n, .inl f))) {j : Int32} {x : Int32} (hin : vp_in j n) (hset : ∀ q, cf' q = if q = i then some (a, .inl (D.1 102, n, .inl (upd f j.toNatClampNeg (vp_nar .short x)))) else cf q) (hdg : decode cc pc = .ok (.sastore, 1))
    (kk : ∀ (H1 : Heap) (locs1 : List Loc), hw D cf' A H1 → va_S A H0 H1 locs1 → W p l e R s m args below meth c H1 locs1 cells slots Q (F0 m (pc + 1) ls rest)) : W p l e R s m args below meth c H locs cells slots Q (F0 m pc ls (.int x :: .int j :: .ref a :: rest)) := by
  obtain ⟨hat, hAa⟩ := hI.1 i _ _ he
  refine W.sast hexec hb hat ((hK.1.2 2 _ rfl).1 n (fun j => .int (f j))) (fun q => by cases q) (by show ¬ (j < 0 ∨ (arrV _ _ _).slots.size ≤ _); rw [arrV_size]; exact hin) rfl rfl hdg fun H1 e z oq => ?_
  refine kk H1 _ (hI.set he ?_ oq hset) (hS.put z oq hAa)
  show H1[a]? = some (vp_cell _ _)
  rw [e]
  rw [vp_cell_i, vp_cell_i, arrV_store]
  congr 2
  funext q
  by_cases hq : q = j.toNatClampNeg
  · subst hq
    simp [updV, upd, vp_nar]
    try rfl
  · simp [updV, upd, hq]
end ROWS
