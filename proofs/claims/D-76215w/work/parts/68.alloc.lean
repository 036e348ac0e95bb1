/-! cells that come: objects and arrays under free numbers; final fields; calls that make cells -/
def cadd (cf : cmap) (i : Nat) (x : Nat × va_E) : cmap := fun j => if j = i then some x else cf j
theorem cadd_at (cf : cmap) (i : Nat) (x : Nat × va_E) : cadd cf i x i = some x := if_pos rfl
theorem cadd_ne {cf : cmap} {i j : Nat} {x : Nat × va_E} (h : j ≠ i) : cadd cf i x j = cf j := if_neg h
theorem cadd_two (cf : cmap) (i : Nat) (x y : Nat × va_E) : cadd (cadd cf i x) i y = cadd cf i y := by
  funext j
  by_cases h : j = i <;> simp [cadd, h]
theorem cadd_swap {i k : Nat} (h : i ≠ k) (cf : cmap) (x y : Nat × va_E) : cadd (cadd cf i x) k y = cadd (cadd cf k y) i x := by
  funext j
  by_cases h1 : j = i
  · subst h1; simp [cadd, h]
  · simp [cadd, h1]
theorem cadd_self {cf : cmap} {i : Nat} {x : Nat × va_E} (h : cf i = some x) : cadd cf i x = cf := by
  funext j
  by_cases h1 : j = i
  · subst h1; simp [cadd, h]
  · simp [cadd, h1]
theorem arrV_congr {cI : ClassId} {N : Nat} {f g : Nat → Value} (h : ∀ j, j < N → f j = g j) : arrV cI N f = arrV cI N g := by
  unfold arrV
  congr 1
  exact congrArg Array.ofFn (funext fun j => h j.val j.isLt)
theorem hw.add {D : va_G} {cf cf' : cmap} {A : Nat → Prop} {H H1 : Heap} {i a : Nat} {e : va_E} (h : hw D cf A H) (hi : cf i = none) (ha : H.size ≤ a) (hn : va_at D clA (a, e) H1) (hA : A a) (oq : ∀ q : Nat, q < H.size → H1[q]? = H[q]?) (hc : ∀ j, cf' j = if j = i then some (a, e) else cf j) : hw D cf' A H1 := by
  refine ⟨fun j b f hj => ?_, fun j k b f f' hj hk => ?_⟩
  · rw [hc] at hj
    by_cases hji : j = i
    · rw [if_pos hji] at hj
      cases hj
      exact ⟨hn, hA⟩
    · rw [if_neg hji] at hj
      obtain ⟨h1, h2⟩ := h.1 j b f hj
      exact ⟨h1.kept (oq b (h.lt hj)), h2⟩
  · rw [hc] at hj hk
    by_cases hji : j = i
    · by_cases hki : k = i
      · rw [hji, hki]
      · rw [if_pos hji] at hj
        rw [if_neg hki] at hk
        cases hj
        exact absurd (h.lt hk) (by omega)
    · rw [if_neg hji] at hj
      by_cases hki : k = i
      · rw [if_pos hki] at hk
        cases hk
        exact absurd (h.lt hj) (by omega)
      · rw [if_neg hki] at hk
        exact h.2 j k _ _ _ hj hk
/-- an array's contents beyond its length don't matter -/
theorem vc_i {cA : ClassId} {n : Nat} {f g : Nat → Int32} (h : ∀ k, k < n → f k = g k) : vp_cell cA (n, .inl f) = vp_cell cA (n, .inl g) := by
  rw [vp_cell_i, vp_cell_i]
  exact arrV_congr fun k hk => by rw [h k hk]
theorem vc_q {cA : ClassId} {n : Nat} {f g : Nat → Option Nat} (h : ∀ k, k < n → f k = g k) : vp_cell cA (n, .inr (.inr (.inr (.inr f)))) = vp_cell cA (n, .inr (.inr (.inr (.inr g)))) := by
  rw [vp_cell_q, vp_cell_q]
  exact arrV_congr fun k hk => by rw [h k hk]
theorem hw.ext {D : va_G} {cf cf' : cmap} {A : Nat → Prop} {H : Heap} (h : hw D cf A H) (hc : ∀ j, cf' j = cf j ∨ ∃ a cA x y, cf j = some (a, .inl (cA, x)) ∧ cf' j = some (a, .inl (cA, y)) ∧ vp_cell cA x = vp_cell cA y) : hw D cf' A H := by
  have key : ∀ j a e, cf' j = some (a, e) → ∃ e0, cf j = some (a, e0) ∧ (va_at D clA (a, e0) H → va_at D clA (a, e) H) := by
    intro j a e he
    rcases hc j with h1 | ⟨a', cA, x, y, h1, h2, h3⟩
    · exact ⟨e, by rw [← h1]; exact he, id⟩
    · rw [h2] at he
      cases he
      refine ⟨_, h1, fun q => ?_⟩
      show H[a]? = some (vp_cell cA y)
      have q : H[a]? = some (vp_cell cA x) := q
      rw [q, h3]
  refine ⟨fun j a e he => ?_, fun j k a e e' h1 h2 => ?_⟩
  · obtain ⟨e0, g1, g2⟩ := key j a e he
    exact ⟨g2 (h.1 j a e0 g1).1, (h.1 j a e0 g1).2⟩
  · obtain ⟨e0, g1, -⟩ := key j a e h1
    obtain ⟨e1, g2, -⟩ := key k a e' h2
    exact h.2 j k a e0 e1 g1 g2
theorem hw.in {D : va_G} {cf : cmap} {A B : Nat → Prop} {H : Heap} (h : hw D cf A H) (hB : ∀ i a e, cf i = some (a, e) → B a) : hw D cf B H := ⟨fun i a e he => ⟨(h.1 i a e he).1, hB i a e he⟩, h.2⟩
/-! fields of one name, of two declarers -/
theorem u_owner {args : Array Value} {s : State} {C O f d : String} (h : (Cond.lays C O f d).before args s = true ∨ (Cond.laysFinal C O f d).before args s = true) {cf kf fi fd} (hi : s.fieldFound? O f d = some (cf, kf, fi, fd)) : ∃ a q, s.vm.findClass C = some a ∧ Jmm.declares? s.vm fd.slot (a + 1) a = some q ∧ q.1.name = O := by
  rcases h with h | h
  · obtain ⟨a, _, _, _, _, g, ha, _, hg, _, _, _, _, q, hd, hn, _, _⟩ := Cond.lays_spec h
    cases hi.symm.trans hg
    have h2 := Cond.lays_declared h hi
    obtain ⟨k9, hk9, hn9⟩ := Vm.findClass_spec h2
    cases (State.fieldFound?_spec hi).1.symm.trans hk9
    exact ⟨a, q, ha, hd, hn.trans hn9⟩
  · obtain ⟨a, _, _, _, _, g, ha, _, hg, _, _, _, h2, _, q, hd, hn, _, _⟩ := Cond.laysFinal_spec h
    cases hi.symm.trans hg
    obtain ⟨k9, hk9, hn9⟩ := Vm.findClass_spec h2
    cases (State.fieldFound?_spec hi).1.symm.trans hk9
    exact ⟨a, q, ha, hd, hn.trans hn9⟩
theorem u_apartO {args : Array Value} {s : State} {C O f d O' f' d' : String} (h : (Cond.lays C O f d).before args s = true ∨ (Cond.laysFinal C O f d).before args s = true) (h' : (Cond.lays C O' f' d').before args s = true ∨ (Cond.laysFinal C O' f' d').before args s = true)
    {cf kf fi fd cf' kf' fi' fd'} (hi : s.fieldFound? O f d = some (cf, kf, fi, fd)) (hi' : s.fieldFound? O' f' d' = some (cf', kf', fi', fd')) (hne : O ≠ O') : fd.slot ≠ fd'.slot := by
  obtain ⟨a, q, h1, h2, h3⟩ := u_owner h hi
  obtain ⟨a', q', g1, g2, g3⟩ := u_owner h' hi'
  cases h1.symm.trans g1
  intro hs
  rw [hs] at h2
  cases h2.symm.trans g2
  exact hne (h3.symm.trans g3)
theorem r_apart {D : va_G} {s : State} {args : Array Value} {C : String} {T : u_T} {N ci : Nat} (hts : ∀ w ∈ lw_all, w.before args s = true) (hin : ∀ w ∈ u_ws C T N, w ∈ lw_all) (ty : Nat → FieldType) (hty : ∀ k, k < N → parseFieldDescriptor (T k).2.2.1 = some (ty k)) (hnm : ∀ a, a < N → ∀ b, b < N → a ≠ b → (T a).1 ≠ (T b).1 ∨ (T a).2.1 ≠ (T b).2.1) (hK : KK D s) (hc : clA[ci]? = some (C, T, N)) : ∀ x y, x < N → y < N → x ≠ y → (D.2 ci) x ≠ (D.2 ci) y := by
  intro x y hx hy hne
  obtain ⟨hS, -⟩ := hK.1.1 ci _ hc
  obtain ⟨_, _, _, fa, hia, ea⟩ := hS x hx
  obtain ⟨_, _, _, fb, hib, eb⟩ := hS y hy
  rw [← ea, ← eb]
  rcases hnm x hx y hy hne with h | h
  · exact u_apartO (u_lays hts hin hx) (u_lays hts hin hy) hia hib h
  · refine u_apart (u_lays hts hin hx) (u_lays hts hin hy) hia hib ?_
    rw [(State.fieldFound?_type hia (hty x hx)).1, (State.fieldFound?_type hib (hty y hy)).1]
    exact h
/-! what a constructor knows beside KK: array classes, two statics of Throwable, that new addresses are its own -/
def AOI (U : State) : Prop := ∃ (comp cA : ClassId) (kA : Class), U.vm.findClass "[I" = some comp ∧ U.vm.classes[cA]? = some kA ∧ kA.kind = .array comp (.array .int) ∧ U.vm.findClass "[[I" = some cA
theorem AOI.moved {u U : State} (hvm : u.vm.Alike U.vm) (h : AOI u) : AOI U := by
  obtain ⟨comp, cA, kA, h1, h2, h3, h4⟩ := h
  obtain ⟨k', hk', he⟩ := hvm.2.2 _ _ h2
  exact ⟨comp, cA, k', by rw [hvm.findClass]; exact h1, hk', by rw [he]; exact h3, by rw [hvm.findClass]; exact h4⟩
theorem AOI.of {args : Array Value} {U : State} (h : (Cond.arrayOver (.array .int)).before args U = true) : AOI U := by
  obtain ⟨comp, c, k, h1, -, h2, h3, h4⟩ := arrayOverA_spec h
  exact ⟨comp, c, k, h1, h2, h3, h4⟩
def isr (v : Value) : Prop := v = .null ∨ ∃ a, v = .ref a
def NX (z : Value × Value) (A : Nat → Prop) (U : State) : Prop := va_AO "LeftGloves$Slot" U ∧ (AOI U ∧ isr z.1 ∧ isr z.2) ∧ va_Z "java/lang/Throwable" "UNASSIGNED_STACK" "[Ljava/lang/StackTraceElement;" z.1 A U U.heap ∧ va_Z "java/lang/Throwable" "SUPPRESSED_SENTINEL" "Ljava/util/List;" z.2 A U U.heap ∧ ∀ q, U.heap.size ≤ q → A q
theorem NX.warm {z : Value × Value} {A : Nat → Prop} {s U : State} {locs : List Loc} (h : NX z A s) (hW : s.WarmedH U.vm) (hS : va_S A s.heap U.heap locs) : NX z A U :=
  ⟨va_AO.moved hW.alike h.1, ⟨h.2.1.1.moved hW.alike, h.2.1.2⟩, (va_Z.moved hW.alike h.2.2.1).kept hS.2.1, (va_Z.moved hW.alike h.2.2.2.1).kept hS.2.1, fun q hq => h.2.2.2.2 q (Nat.le_trans hS.1 hq)⟩
theorem NX.same {z : Value × Value} {A : Nat → Prop} {s U : State} (h : NX z A s) (hv : s.vm = U.vm) (hh : U.heap = s.heap) : NX z A U := by
  have ha : s.vm.Alike U.vm := by rw [hv]; exact Vm.Alike.refl _
  refine ⟨va_AO.moved ha h.1, ⟨h.2.1.1.moved ha, h.2.1.2⟩, ?_, ?_, ?_⟩
  · rw [hh]; exact va_Z.moved ha h.2.2.1
  · rw [hh]; exact va_Z.moved ha h.2.2.2.1
  · rw [hh]; exact h.2.2.2.2
def pN (D : va_G) (cf : cmap) (A : Nat → Prop) (z : Value × Value) : State → Prop := fun U => hw D cf A U.heap ∧ KK D U ∧ NX z A U
theorem pN_blind {D : va_G} {cf : cmap} {A : Nat → Prop} {z : Value × Value} {av : List Value} : FrameBlind (va_Pc av (pN D cf A z)) := fun a U g mk q => ⟨q.1, q.2.1, KK.same (rfl : U.vm = (U.calling g mk a).vm) q.2.2.1, NX.same q.2.2.2 (rfl : U.vm = (U.calling g mk a).vm) rfl⟩
theorem pN_pre {D : va_G} {cf : cmap} {A : Nat → Prop} {z : Value × Value} {av : List Value} {s : State} {H : Heap} {locs : List Loc} (hI : hw D cf A H) (hK : KK D s) (hX : NX z A s) (hS : va_S A s.heap H locs) : ∀ U : State, U.heap = H → s.WarmedH U.vm → va_Pc av (pN D cf A z) av.toArray U := fun U hU hW => ⟨rfl, by rw [hU]; exact hI, KK.warm hW hK, NX.warm hX hW (by rw [hU]; exact hS)⟩
theorem met_N {l : Launch} {y : MethodName} {ws : List Cond} {rm : Room} {Qc : Array Value → State → Outcome → State → Prop} {mc ms : Nat} {free : Addr → Prop} {cc : ByteArray} {maxL : Nat} {ret : Option FieldType} {D : va_G} {cf : cmap} {A : Nat → Prop} {z : Value × Value} {av : List Value} (hy : plainName y.cls = true) (hw0 : ws = Cond.code y cc maxL ret :: lw_all) (hn : (lg_sl av).length ≤ maxL)
    (body : ∀ (p : Program) (e : Env) (s : State) (m : MethodId) (below : List Frame) (meth : Method) (c : Code) (ls : Array Slot), p.tables.exec = Jvm.exec → c.code = cc → meth.sig.returnType = ret → c.maxLocals = maxL → s.vm.findClass y.cls = some m.cls → (∀ w ∈ lw_all, w.before av.toArray s = true) → meth.locks = false → lv_has ls maxL (lv_args 0 av) → hw D cf A s.heap → KK D s → NX z A s → meth.name = y.name →
      W p l e rm s m av.toArray below meth c s.heap [] 0 0 (MQ below Qc av.toArray s mc ms free) (F0 m 0 ls [])) : Met l y ws rm (va_Pc av (pN D cf A z)) Qc mc ms free := by
  refine Met.ofW (cc := cc) (maxL := maxL) (ret := ret) hy hw0 ?_
  intro p e s m args below meth c s₁ B hml hv
  obtain ⟨rfl, hI, hK, hX⟩ := hv
  have hts := atoms_spec (ws := ws) B.pre
  have hl := lv_entry av (n := maxL) hn
  rw [lg_entry_eq]
  exact body p e s m below meth c _ B.exec B.bytes B.returns hml (findClass_of_methodNamed B.named) (fun w h => hts w (by rw [hw0]; exact List.mem_cons_of_mem _ h)) B.notSynchronized hl hI hK hX (name_of_methodNamed B.named B.method).1
/-- an answer and a world that a law speaks of -/
def vQ (D : va_G) (A : Nat → Prop) (P : Option Value → cmap → Prop) : Array Value → State → Outcome → State → Prop := fun _ st oc t => (∃ ov cf', oc = .returned ov ∧ P ov cf' ∧ hw D cf' A t.heap) ∧ va_F A st t
section ALLOC
variable {p : Program} {l : Launch} {e : Env} {R : Room} {s : State} {m : MethodId} {args : Array Value} {below : List Frame} {meth : Method} {c : Code} {H H0 : Heap} {locs : List Loc} {cells slots : Nat} {Q : State → Prop}
variable {cc : ByteArray} {pc : Nat} {ls : Array Slot} {rest st0 : List Value} {A : Nat → Prop} {D : va_G} {cf cf' : cmap} {a : Nat} {z : Value × Value}
theorem va_S.new {H1 : Heap} (hS : va_S A H0 H locs) (z1 : H.size ≤ H1.size) (o1 : ∀ q : Nat, q < H.size → H1[q]? = H[q]?) : va_S A H0 H1 locs := ⟨Nat.le_trans hS.1 z1, fun x h1 h2 => (o1 x (Nat.lt_of_lt_of_le h1 hS.1)).trans (hS.2.1 x h1 h2), hS.2.2⟩
theorem r_new (hexec : p.tables.exec = Jvm.exec) (hb : c.code = cc) {own C : String} {T : u_T} {N ci index : Nat} (hts : ∀ w ∈ lw_all, w.before args s = true) (hin : ∀ w ∈ u_ws C T N, w ∈ lw_all) (ty : Nat → FieldType) (hty : ∀ k, k < N → parseFieldDescriptor (T k).2.2.1 = some (ty k)) (hown : s.vm.findClass own = some m.cls) (hcl : (Cond.classLink own index C).before args s = true) (hinst : (Cond.instantiable C N).before args s = true) (hini : (Cond.initialized C).before args s = true)
    (hK : KK D s) (hI : hw D cf A H) (hS : va_S A H0 H locs) (hA : ∀ q, H0.size ≤ q → A q) (hc : clA[ci]? = some (C, T, N)) {fs : List Value} (hfs : ∀ j, j < N → defaultValue (ty j) = vp_V fs j) {i : Nat} (hi : cf i = none) (hcells : cells + 1 ≤ R.cells) (hslots : slots + N ≤ R.slots) (hdg : decode cc pc = .ok (.new index, 3))
    (kk : ∀ (q : Nat) (H1 : Heap), hw D (cadd cf i (q, .inr (ci, fs))) A H1 → va_S A H0 H1 locs → W p l e R s m args below meth c H1 locs (cells + 1) (slots + N) Q (F0 m (pc + 3) ls (.ref q :: rest))) : W p l e R s m args below meth c H locs cells slots Q (F0 m pc ls rest) := by
  have hKn := hK.1.1 ci _ hc
  refine W.newcK hexec hb hown hcl hinst hini rfl hdg hcells hslots hKn.2.1 rfl fun H1 kC hkC e1 z1 o1 => ?_
  exact kk H.size H1 (hI.add (e := .inr (ci, fs)) hi (Nat.le_refl _) ⟨_, hc, (u_born ty hts hin hKn hkC e1 hty).to hfs⟩ (hA _ hS.1) o1 (fun _ => rfl)) (hS.new (by omega) o1)
theorem r_newa (hexec : p.tables.exec = Jvm.exec) (hb : c.code = cc) {atype : ArrayType} (harr : (Cond.arrayClass (newarray.typeOf atype)).before args s = true) {ty : FieldType} (hty : newarray.typeOf atype = ty) {cA : ClassId} (hcA : s.vm.findClass ("[" ++ ty.toString) = some cA) (hI : hw D cf A H) (hS : va_S A H0 H locs) (hA : ∀ q, H0.size ≤ q → A q)
    {n : Int32} {N : Nat} (hd : defaultValue ty = .int 0) {i : Nat} (hi : cf i = none) (hn : ¬ n < 0) (hN : n.toNatClampNeg = N) (hbytes : N * componentBytes ty ≤ 536870912) (hcells : cells + 1 ≤ R.cells) (hslots : slots + N ≤ R.slots) (hdg : decode cc pc = .ok (.newarray atype, 2))
    (kk : ∀ (q : Nat) (H1 : Heap), q = H.size → hw D (cadd cf i (q, .inl (cA, N, .inl (fun _ => 0)))) A H1 → va_S A H0 H1 locs → W p l e R s m args below meth c H1 locs (cells + 1) (slots + N) Q (F0 m (pc + 2) ls (.ref q :: rest))) : W p l e R s m args below meth c H locs cells slots Q (F0 m pc ls (.int n :: rest)) := by
  subst hty
  refine va_newaK hexec hb harr rfl hdg rfl hn hN hbytes hcells hslots rfl fun H1 cA' e1 z1 o1 hAr hNm => ?_
  cases hcA.symm.trans hNm
  refine kk H.size H1 rfl (hI.add hi (Nat.le_refl _) ?_ (hA _ hS.1) o1 (fun _ => rfl)) (hS.new (by omega) o1)
  show H1[H.size]? = some (vp_cell _ _)
  rw [e1, hd]
  rfl
theorem r_newq (hexec : p.tables.exec = Jvm.exec) (hb : c.code = cc) {own : String} {index : Nat} (hown : s.vm.findClass own = some m.cls) (hclink : (Cond.classLink own index "LeftGloves$Slot").before args s = true) (hX : NX z A s) (hK : KK D s) (hI : hw D cf A H) (hS : va_S A H0 H locs) (hA : ∀ q, H0.size ≤ q → A q)
    {n : Int32} {N : Nat} {i : Nat} (hi : cf i = none) (hn : ¬ n < 0) (hN : n.toNatClampNeg = N) (hbytes : N * 4 ≤ 536870912) (hcells : cells + 1 ≤ R.cells) (hslots : slots + N ≤ R.slots) (hdg : decode cc pc = .ok (.anewarray index, 3))
    (kk : ∀ (q : Nat) (H1 : Heap), hw D (cadd cf i (q, .inl (D.1 104, N, .inr (.inr (.inr (.inr (fun _ => none))))))) A H1 → va_S A H0 H1 locs → W p l e R s m args below meth c H1 locs (cells + 1) (slots + N) Q (F0 m (pc + 3) ls (.ref q :: rest))) : W p l e R s m args below meth c H locs cells slots Q (F0 m pc ls (.int n :: rest)) := by
  subst hN
  refine W.anew hexec hb hown hclink (va_AO.use hX.1) rfl hdg rfl hn hbytes hcells hslots fun cA kA comp f1 f2 f3 f4 => ?_
  obtain ⟨kA', comp', k1, k2, k3, k4⟩ := (hK.1.2 4 _ rfl).2
  cases k4.symm.trans f1
  generalize hH1 : H.push ({ cls := D.1 104, slots := Array.replicate n.toNatClampNeg .null, vm := .none } : Cell) = H1
  have z1 : H1.size = H.size + 1 := by rw [← hH1, Array.size_push]
  have e1 : H1[H.size]? = some (arrV (D.1 104) n.toNatClampNeg (fun _ => .null)) := by rw [← hH1, Array.getElem?_push_size, ← arrV_new]
  have o1 : ∀ q : Nat, q < H.size → H1[q]? = H[q]? := fun q hq => by rw [← hH1, Array.getElem?_push, if_neg (Nat.ne_of_lt hq)]
  refine kk H.size H1 (hI.add hi (Nat.le_refl _) ?_ (hA _ hS.1) o1 (fun _ => rfl)) (hS.new (by omega) o1)
  show H1[H.size]? = some (vp_cell _ _)
  rw [e1]
  rfl
/-- a final field, in the constructor of the class that declares it -/
theorem r_putF (hexec : p.tables.exec = Jvm.exec) (hb : c.code = cc) {own ref C : String} {T : u_T} {N ci index : Nat} (hts : ∀ w ∈ lw_all, w.before args s = true) (hin : ∀ w ∈ u_ws C T N, w ∈ lw_all) (hap : ∀ x y, x < N → y < N → x ≠ y → (D.2 ci) x ≠ (D.2 ci) y) (hown : s.vm.findClass own = some m.cls) (hK : KK D s) (hI : hw D cf A H) (hS0 : va_S A H0 H locs) {i : Nat} {fs : List Value} (he : cf i = some (a, .inr (ci, fs))) (hc : clA[ci]? = some (C, T, N)) (k : Nat) (hk : k < N) (hlink : (Cond.fieldLink own index ref (T k).2.1 (T k).2.2.1).before args s = true) (hsame : ∀ x, s.fieldFound? (T k).1 (T k).2.1 (T k).2.2.1 = some x → s.fieldFound? ref (T k).2.1 (T k).2.2.1 = some x) (hfin : (T k).2.2.2 = true) (hin2 : meth.name = "<init>") (hdecl : (T k).1 = own) {ty : FieldType} {v : Value} (hd : parseFieldDescriptor (T k).2.2.1 = some ty) (hn : narrow ty v = v) (hfit : fits ty v = true) (hl : k < fs.length)
    (hdg : decode cc pc = .ok (.putfield index, 3)) (kk : ∀ (H1 : Heap) (locs1 : List Loc), hw D (cadd cf i (a, .inr (ci, fs.set k v))) A H1 → va_S A H0 H1 locs1 → W p l e R s m args below meth c H1 locs1 cells slots Q (F0 m (pc + 3) ls rest)) : W p l e R s m args below meth c H locs cells slots Q (F0 m pc ls (v :: .ref a :: rest)) := by
  obtain ⟨⟨r, h1, cell, q1, q2, q3, q4⟩, hAa⟩ := hI.1 i _ _ he
  have hr : r = (C, T, N) := Option.some.inj (h1.symm.trans hc)
  subst hr
  obtain ⟨hS, hfc, kC, hkC, hkind⟩ := hK.1.1 ci _ hc
  obtain ⟨cf0, kf, fi, f, hi, hsl⟩ := hS k hk
  have hlay := hts _ (hin _ (u_in_lay hk))
  unfold u_lay at hlay
  rw [if_pos hfin] at hlay
  have hst := (u_facts hfc hkC (u_lays hts hin hk) hi).1
  have hcf : m.cls = cf0 := by
    obtain ⟨_, _, c', _, _, _, -, -, hf', -, -, -, hown2, -⟩ := Cond.laysFinal_spec hlay
    have e1 : c' = cf0 := by have := hi.symm.trans hf'; simp at this; exact this.1.symm
    rw [hdecl] at hown2
    rw [← e1]; exact Option.some.inj (hown.symm.trans hown2)
  have h6 := u_fits hfc hkC hkind (Or.inr hlay) hi hd hn hfit
  refine W.putFinK hexec hb hown hlink (hsame _ hi) hst hcf hin2 (by rw [q2]; exact h6) q1 q3 (by rw [hsl]; exact k2_hasslot (q4 k hk)) rfl rfl hdg fun H' e1 e2 e3 => ?_
  rw [hsl] at e1 ⊢
  exact kk H' _ (hI.set (e := .inr (ci, fs.set k v)) he ⟨_, hc, t_OB.to (V := updV (vp_V fs) k v) ⟨_, e1, q2, q3, t_set q4 hap hk v⟩ (fun j _ => vp_updV_set hl v j)⟩ e3 (fun _ => rfl)) (hS0.put e2 e3 hAa)
/-- a Slot laid into an array of Slots -/
theorem r_astS (hexec : p.tables.exec = Jvm.exec) (hb : c.code = cc) (hK : KK D s) (hI : hw D cf A H) (hS : va_S A H0 H locs) {i i2 : Nat} {n v : Nat} {vs : List Value} {f : Nat → Option Nat} (ha : cf i = some (a, .inl (D.1 104, n, .inr (.inr (.inr (.inr f)))))) (hv : cf i2 = some (v, .inr (5, vs))) {j : Int32} {k : Nat} (hj : j = nI k) (hk : k < n) (hn1 : n ≤ 1000) (hdg : decode cc pc = .ok (.aastore, 1))
    (kk : ∀ (H1 : Heap) (locs1 : List Loc), hw D (cadd cf i (a, .inl (D.1 104, n, .inr (.inr (.inr (.inr (va_up f k (some v)))))))) A H1 → va_S A H0 H1 locs1 → W p l e R s m args below meth c H1 locs1 cells slots Q (F0 m (pc + 1) ls rest)) : W p l e R s m args below meth c H locs cells slots Q (F0 m pc ls (.ref v :: .int j :: .ref a :: rest)) := by
  have hin := vp_c hj hk hn1
  have hcl := cl_c hj hk hn1
  have h0 : ¬ j < 0 := fun q => hin (Or.inl q)
  obtain ⟨r', hr', cellV, g1, g2, g3, -⟩ := (hI.1 i2 _ _ hv).1
  have hcls := (hK.1.1 5 (RX5, TX5, 1) rfl).2
  obtain ⟨kA, comp, k1, k2, k3, -⟩ := (hK.1.2 4 _ rfl).2
  have hcomp : comp = D.1 5 := Option.some.inj (k3.symm.trans hcls.1)
  subst hcomp
  obtain ⟨kC, hkC, -⟩ := hcls.2
  refine W.aast hexec hb (hI.1 i _ _ ha).1 (fun q h => by cases h) (fun h => by cases h) k1 k2 rfl hkC ⟨h0, by show _ < (arrV _ _ _).slots.size; rw [arrV_size, hcl]; exact hk⟩ g1 (fun q h => by rw [g3] at h; cases h) (by rw [g2]; exact hkC) (by rw [g2]; exact va_assign hcls) rfl rfl hdg fun H1 e z oq => ?_
  refine kk H1 _ (hI.set ha ?_ oq (fun _ => rfl)) (hS.put z oq (hI.1 i _ _ ha).2)
  show H1[a]? = some (vp_cell _ _)
  rw [e, vp_cell_q, vp_cell_q, arrV_store, hcl]
  congr 2
  funext q
  by_cases hq : q = k
  · subst hq
    simp [updV, va_up, va_rf]
  · simp [updV, va_up, hq]
/-- behind a call that makes cells -/
theorem c_n {mc ms : Nat} {P : Option Value → cmap → Prop} {a : Array Value} (hr : va_Run p l e R s m args below meth c H locs cells slots mc ms (F0 m pc ls st0) rest (vQ D A P a) A) (hS : va_S A H0 H locs)
    (kk : ∀ (ov : Option Value) (cf' : cmap) (H1 : Heap) (locs1 : List Loc), P ov cf' → hw D cf' A H1 → va_S A H0 H1 locs1 → W p l e R s m args below meth c H1 locs1 (cells + mc) (slots + ms) Q (F0 m (pc + 3) ls (ov.toList ++ rest))) : W p l e R s m args below meth c H locs cells slots Q (F0 m pc ls st0) := by
  intro T hT X
  obtain ⟨w, st₀, t, T', L, h0, X', hL, e1, e2, ⟨⟨ov, cf', hv, hP, hI⟩, hz, hk⟩, st⟩ := hr T hT X
  cases hv
  rw [h0] at hz hk
  obtain ⟨t2, a1, b1⟩ := kk w cf' T'.heap (locs ++ L) hP (by rw [e1]; exact hI) ⟨Nat.le_trans hS.1 (by rw [e1]; exact hz), fun q h1 h2 => by rw [e1, hk q (Nat.lt_of_lt_of_le h1 hS.1) h2]; exact hS.2.1 q h1 h2, fun q hq => by
      rcases List.mem_append.mp hq with h | h
      · exact hS.2.2 q h
      · exact hL q h⟩ T' rfl X'
  exact ⟨t2, st t2 a1, b1⟩
variable {y : MethodName} {bytes : ByteArray} {maxL nL n index mc ms : Nat} {ret : Option FieldType} {ws : List Cond} {rm : Room} {Qc : Array Value → State → Outcome → State → Prop} {own C host : String} {b i ci : Nat} {As : List Value} {free : Addr → Prop}
theorem k_I (S : CallFix p m c cc nL s args lw_all own) (hM : Met l y ws rm (va_Pc (.ref b :: As) (pN D cf A z)) Qc mc ms free) (cw : CallB R s args own index y bytes maxL none ws rm mc ms n ∧ y.name = "<init>" ∧ (Cond.instanceMethod y).before args s = true) (hI : hw D cf A H) (hK : KK D s) (hX : NX z A s) (hS : va_S A s.heap H locs)
    (hn : As.length = n) (hsize : ls.size = nL) (hstack : st0 = As.reverse ++ .ref b :: rest) (hW : (rest.map fun v => v.category).sum ≤ 8) (hdg : decode cc pc = .ok (.invokespecial index, 3)) (hf : cells + mc ≤ R.cells ∧ slots + ms ≤ R.slots) :
    va_Run p l e R s m args below meth c H locs cells slots mc ms (F0 m pc ls st0) rest (Qc (Value.ref b :: As).toArray) free :=
  va_runI S hM cw ⟨pN_blind, pN_pre hI hK hX hS⟩ rfl hn hsize hstack (lv_room hW) hdg hf
theorem k_IN (S : CallFix p m c cc nL s args lw_all own) (hM : Met l y ws rm (va_Pc (.ref b :: As) (pN D cf A z)) Qc mc ms free) (cw : va_CN R s args own index y host bytes maxL none ws rm mc ms n ∧ y.name = "<init>" ∧ (Cond.instanceMethod y).before args s = true) (hI : hw D cf A H) (hK : KK D s) (hX : NX z A s) (hS : va_S A s.heap H locs)
    (hn : As.length = n) (hsize : ls.size = nL) (hstack : st0 = As.reverse ++ .ref b :: rest) (hW : (rest.map fun v => v.category).sum ≤ 8) (hdg : decode cc pc = .ok (.invokespecial index, 3)) (hf : cells + mc ≤ R.cells ∧ slots + ms ≤ R.slots) :
    va_Run p l e R s m args below meth c H locs cells slots mc ms (F0 m pc ls st0) rest (Qc (Value.ref b :: As).toArray) free :=
  va_runIN S hM cw ⟨pN_blind, pN_pre hI hK hX hS⟩ rfl hn hsize hstack (lv_room hW) hdg hf
theorem k_VNw (S : CallFix p m c cc nL s args lw_all own) (hM : Met l y ws rm (va_Pc (.ref b :: As) (pN D cf A z)) Qc mc ms free) (cw : CallW R s args own C index y bytes maxL ret ws rm mc ms n) (hI : hw D cf A H) (hK : KK D s) (hX : NX z A s) (hS : va_S A s.heap H locs) (hr : ∃ cellB : Cell, H[b]? = some cellB ∧ cellB.vm.isStatics = false ∧ s.vm.findClass C = some cellB.cls)
    (hn : As.length = n) (hsize : ls.size = nL) (hstack : st0 = As.reverse ++ .ref b :: rest) (hW : (rest.map fun v => v.category).sum ≤ 8) (hdg : decode cc pc = .ok (.invokevirtual index, 3)) (hf : cells + mc ≤ R.cells ∧ slots + ms ≤ R.slots) :
    va_Run p l e R s m args below meth c H locs cells slots mc ms (F0 m pc ls st0) rest (Qc (Value.ref b :: As).toArray) free :=
  va_runV S hM cw ⟨pN_blind, hr, pN_pre hI hK hX hS⟩ rfl hn hsize hstack (lv_room hW) hdg hf
end ALLOC
/-! an array of rows of ints, seven by eight -/
def mq (cA cB : ClassId) (T : State) : Nat → State
  | 0 => T.pushCell (arrV cA 7 (fun _ => .null))
  | i + 1 => ((mq cA cB T i).pushCell (arrV cB 8 (fun _ => .int 0))).setCell T.heap.size (arrV cA 7 (fun j => if j < i + 1 then .ref (T.heap.size + 1 + j) else .null))
theorem mq_slot (cA : ClassId) (h i : Nat) : (arrV cA 7 (fun j => if j < i then Value.ref (h + 1 + j) else .null)).setSlot i (.ref (h + 1 + i)) = arrV cA 7 (fun j => if j < i + 1 then .ref (h + 1 + j) else .null) := by
  rw [arrV_store]
  refine arrV_congr fun j _ => ?_
  by_cases hj : j = i
  · subst hj; simp [updV]
  · by_cases h2 : j < i
    · have h3 : j < i + 1 := by omega
      simp [updV, hj, h2, h3]
    · have h3 : ¬ j < i + 1 := by omega
      simp [updV, hj, h2, h3]
theorem mq_facts (cA cB : ClassId) (T : State) : ∀ i, (mq cA cB T i).heap.size = T.heap.size + 1 + i ∧ (mq cA cB T i).heap[T.heap.size]? = some (arrV cA 7 (fun j => if j < i then .ref (T.heap.size + 1 + j) else .null)) ∧ (mq cA cB T i).vm = T.vm ∧ (mq cA cB T i).slotsUsed = T.slotsUsed + 7 + i * 8 ∧
    (∀ a : Nat, a < T.heap.size → (mq cA cB T i).heap[a]? = T.heap[a]?) ∧ ∀ j, j < i → (mq cA cB T i).heap[T.heap.size + 1 + j]? = some (arrV cB 8 (fun _ => .int 0))
  | 0 => ⟨by simp [mq], by simp [mq], rfl, by simp [mq, arrV_size], fun a ha => by simp only [mq]; exact State.heap_pushCell_of_lt _ _ ha, fun j hj => absurd hj (Nat.not_lt_zero _)⟩
  | i + 1 => by
    obtain ⟨h1, h2, h3, h4, h5, h6⟩ := mq_facts cA cB T i
    have hlt : T.heap.size < (mq cA cB T i).heap.size := by omega
    have hb : ((mq cA cB T i).pushCell (arrV cB 8 (fun _ => .int 0))).heap[T.heap.size]? = some (arrV cA 7 (fun j => if j < i then .ref (T.heap.size + 1 + j) else .null)) := by rw [State.heap_pushCell_of_lt (h := hlt)]; exact h2
    refine ⟨?_, State.heap_setCell_self hb, by simp [mq, h3], ?_, fun a ha => ?_, fun j hj => ?_⟩
    · simp [mq, State.setCell, h1]; omega
    · simp [mq, h4, arrV_size]; omega
    · have hlt2 : a < (mq cA cB T i).heap.size := by omega
      show (((mq cA cB T i).pushCell _).setCell T.heap.size _).heap[a]? = _
      rw [State.heap_setCell_other (Nat.ne_of_gt ha), State.heap_pushCell_of_lt (h := hlt2)]
      exact h5 a ha
    · show (((mq cA cB T i).pushCell _).setCell T.heap.size _).heap[T.heap.size + 1 + j]? = _
      rw [State.heap_setCell_other (show T.heap.size ≠ T.heap.size + 1 + j by omega)]
      by_cases hji : j < i
      · have hlt2 : T.heap.size + 1 + j < (mq cA cB T i).heap.size := by omega
        rw [State.heap_pushCell_of_lt (h := hlt2)]
        exact h6 j hji
      · have e : j = i := by omega
        subst e
        rw [← h1]
        exact State.heap_pushCell_size _ _
theorem mq_top (cA cB : ClassId) (T : State) (f : JFrame) : ∀ i, mq cA cB (T.setTop f) i = (mq cA cB T i).setTop f
  | 0 => rfl
  | i + 1 => by simp only [mq, mq_top cA cB T f i, State.heap_setTop, State.pushCell_setTop, State.setCell_setTop]
theorem mq_stand {p : Program} {l : Launch} {e : Env} {R : Room} {s : State} {m : MethodId} {args : Array Value} {below : List Frame} {meth : Method} {c : Code} {T : State} {locs : List Loc} {cells slots : Nat} (X : Stand p l e R s m args below meth c T locs cells slots) (cA cB : ClassId) :
    ∀ i, Stand p l e R s m args below meth c (mq cA cB T i) (locs ++ (List.range i).map fun j => ⟨T.heap.size, j⟩) (cells + 1 + i) (slots + 7 + i * 8)
  | 0 => by
    have h := X.pushed (arrV cA 7 (fun _ => .null))
    rw [arrV_size] at h
    simpa [mq] using h
  | i + 1 => by
    obtain ⟨h1, h2, -⟩ := mq_facts cA cB T i
    have hlt : T.heap.size < (mq cA cB T i).heap.size := by omega
    have hb : ((mq cA cB T i).pushCell (arrV cB 8 (fun _ => .int 0))).heap[T.heap.size]? = some (arrV cA 7 (fun j => if j < i then .ref (T.heap.size + 1 + j) else .null)) := by rw [State.heap_pushCell_of_lt (h := hlt)]; exact h2
    have h := ((mq_stand X cA cB i).pushed (arrV cB 8 (fun _ => .int 0))).stored hb i (.ref (T.heap.size + 1 + i))
    rw [arrV_size, mq_slot] at h
    rw [show slots + 7 + (i + 1) * 8 = slots + 7 + i * 8 + 8 by omega, List.range_succ, List.map_append, ← List.append_assoc]
    exact h
theorem mq_fits {t : FieldType} (h : t.isReference = true) {v : Value} (hv : v = .null ∨ ∃ a, v = .ref a) : fits t v = true := by
  rcases hv with rfl | ⟨a, rfl⟩ <;> cases t <;> simp [FieldType.isReference] at h <;> rfl
theorem mq_wp {E : CtlPost} {e : Env} {d : Bool} {acts : List Action} {s : State} {cA cB cc : ClassId} {k kc : Class} (hk : s.vm.classes[cA]? = some k) (hkind : k.kind = .array cB (.array .int)) (hkc : s.vm.classes[cB]? = some kc) (hkindc : kc.kind = .array cc .int)
    (hl1 : ¬ 8 > e.platform.arrayLengthLimit) (hh1 : ¬ 32 > e.platform.maxHeapBytes) (hc : s.heap.size + 8 ≤ e.platform.maxCells) (hs : s.slotsUsed + 63 ≤ e.platform.maxSlots) {Q : Addr → Pre} (hq : ∀ d' acts', Q s.heap.size d' acts' (mq cA cB s 7)) :
    wp (Op.multianewarray.make cA [7, 8]) Q E e d acts s := by
  have hB : componentBytes (.array .int) = 4 := rfl
  have hI : componentBytes .int = 4 := rfl
  rw [Op.multianewarray.make]
  simp only [wp_bind', W.ite, show ¬ ((7 : Int32) < 0) by decide, if_false, wp_pure', W.theClass, hk, hkind, Option.some.injEq, exists_eq_left']
  refine W.newArray_of hk hkind (by show ¬ 7 > _; omega) (by rw [hB]; show ¬ 28 > _; omega) (by omega) (by show s.slotsUsed + 7 ≤ _; omega) (mq_fits rfl (Or.inl rfl)) (fun acts' => ?_)
  simp only [show ((7 : Int32) == 0) = false by decide, Bool.false_eq_true, if_false]
  rw [wp_bind', Std.Legacy.Range.forIn_eq_forIn_range']
  show wp (forIn (List.range' 0 7 1) PUnit.unit _) _ E e d acts' _
  refine wp_forIn_inv (fun rest s' => ∃ i, i ≤ 7 ∧ rest = List.range' i (7 - i) ∧ s' = mq cA cB s i) _ _ ⟨0, Nat.zero_le _, rfl, by simp only [mq]; rw [← arrV_new]; rfl⟩ ?_ ?_
  · rintro x rest s' d' acts2 Q' ⟨i, hi, hl, rfl⟩ hnext
    have hlt : i < 7 := by
      rcases Nat.lt_or_ge i 7 with h | h
      · exact h
      · rw [show 7 - i = 0 by omega] at hl; simp at hl
    rw [show 7 - i = (7 - (i + 1)) + 1 by omega, List.range'_succ] at hl
    obtain ⟨rfl, hrest⟩ := List.cons.inj hl
    obtain ⟨h1, h2, h3, h4, -, -⟩ := mq_facts cA cB s x
    have hlt0 : s.heap.size < (mq cA cB s x).heap.size := by omega
    simp only [wp_bind']
    rw [Op.multianewarray.make]
    simp only [wp_bind', W.ite, show ¬ ((8 : Int32) < 0) by decide, if_false, wp_pure', W.theClass, h3, hkc, hkindc, Option.some.injEq, exists_eq_left']
    refine W.newArray_of (by rw [h3]; exact hkc) hkindc (by show ¬ 8 > _; omega) (by rw [hI]; show ¬ 32 > _; omega) (by omega) (by show _ + 8 ≤ _; omega) rfl (fun acts3 => ?_)
    simp only [wp_bind', W.writeLoc, wp_pure']
    have e8 : ({ cls := cB, slots := Array.replicate (8 : Int32).toNatClampNeg (defaultValue .int) } : Cell) = arrV cB 8 (fun _ => .int 0) := by rw [← arrV_new]; rfl
    rw [e8]
    refine ⟨arrV cA 7 (fun j => if j < x then .ref (s.heap.size + 1 + j) else .null), by rw [State.heap_pushCell_of_lt (h := hlt0)]; exact h2, (fun h => by cases h), by rw [arrV_size]; exact hlt, ?_, hnext _ _ _ ⟨x + 1, hlt, hrest, ?_⟩⟩
    · show State.fitsSlot _ cA .none x _ = true
      simp [State.fitsSlot, State.slotType?, h3, hk, hkind, mq_fits (t := .array .int) rfl (Or.inr ⟨_, rfl⟩)]
    · rw [h1, mq_slot]; rfl
  · rintro s' d' acts2 ⟨i, hi, hl, rfl⟩
    have hi7 : i = 7 := by
      rcases Nat.lt_or_ge i 7 with h | h
      · rw [show 7 - i = (7 - (i + 1)) + 1 by omega, List.range'_succ] at hl; cases hl
      · omega
    subst hi7
    simp only [wp_pure']
    exact hq _ _
def mset (D : va_G) (cf : cmap) (b a : Nat) : cmap := fun j => if j = b then some (a, .inl (D.1 103, 7, .inr (.inr (.inr (.inr (fun r => some (a + 1 + r))))))) else if b < j ∧ j < b + 8 then some (a + (j - b), .inl (D.1 100, 8, .inl (fun _ => 0))) else cf j
theorem hw.multi {D : va_G} {cf : cmap} {A : Nat → Prop} {H H1 : Heap} {b a : Nat} (h : hw D cf A H) (hf : ∀ k, k < 8 → cf (b + k) = none) (ha : a = H.size) (hA : ∀ q, a ≤ q → A q) (oq : ∀ q : Nat, q < H.size → H1[q]? = H[q]?) (h0 : H1[a]? = some (arrV (D.1 103) 7 (fun j => .ref (a + 1 + j)))) (h1 : ∀ j, j < 7 → H1[a + 1 + j]? = some (arrV (D.1 100) 8 (fun _ => .int 0))) : hw D (mset D cf b a) A H1 := by
  have key : ∀ j x e, mset D cf b a j = some (x, e) → (x = a + (j - b) ∧ b ≤ j ∧ j < b + 8 ∧ va_at D clA (x, e) H1) ∨ (cf j = some (x, e)) := by
    intro j x e he
    unfold mset at he
    by_cases hj : j = b
    · rw [if_pos hj] at he
      cases he
      refine Or.inl ⟨by omega, by omega, by omega, ?_⟩
      show H1[a]? = some (vp_cell _ _)
      rw [h0, vp_cell_q]
      rfl
    · rw [if_neg hj] at he
      by_cases hj2 : b < j ∧ j < b + 8
      · rw [if_pos hj2] at he
        cases he
        refine Or.inl ⟨rfl, by omega, by omega, ?_⟩
        show H1[a + (j - b)]? = some (vp_cell _ _)
        rw [show a + (j - b) = a + 1 + (j - b - 1) by omega, h1 _ (by omega)]
        rfl
      · rw [if_neg hj2] at he
        exact Or.inr he
  refine ⟨fun j x e he => ?_, fun j k x e e' h2 h3 => ?_⟩
  · rcases key j x e he with ⟨q1, q2, q3, q4⟩ | q
    · exact ⟨q4, hA _ (by omega)⟩
    · exact ⟨(h.1 j x e q).1.kept (oq x (h.lt q)), (h.1 j x e q).2⟩
  · rcases key j x e h2 with ⟨q1, q2, q3, q4⟩ | q <;> rcases key k x e' h3 with ⟨p1, p2, p3, p4⟩ | p
    · omega
    · exact absurd (h.lt p) (by omega)
    · exact absurd (h.lt q) (by omega)
    · exact h.2 j k x e e' q p
theorem r_multi {p : Program} {l : Launch} {e : Env} {R : Room} {s : State} {m : MethodId} {args : Array Value} {below : List Frame} {meth : Method} {c : Code} {H H0 : Heap} {locs : List Loc} {cells slots : Nat} {Q : State → Prop} {cc : ByteArray} {pc : Nat} {ls : Array Slot} {rest : List Value} {A : Nat → Prop} {D : va_G} {cf : cmap} {z : Value × Value}
    (hexec : p.tables.exec = Jvm.exec) (hb : c.code = cc) {own : String} {index : Nat} (hown : s.vm.findClass own = some m.cls) (hclink : (Cond.classLink own index "[[I").before args s = true) (hX : NX z A s) (hai : (Cond.arrayClass .int).before args s = true) (hK : KK D s) (hI : hw D cf A H) (hS : va_S A H0 H locs) (hA : ∀ q, H0.size ≤ q → A q) {b : Nat} (hf : ∀ k, k < 8 → cf (b + k) = none) (hcells : cells + 8 ≤ R.cells) (hslots : slots + 63 ≤ R.slots) (hdg : decode cc pc = .ok (.multianewarray index 2, 4))
    (kk : ∀ (a : Nat) (H1 : Heap) (locs1 : List Loc), hw D (mset D cf b a) A H1 → va_S A H0 H1 locs1 → W p l e R s m args below meth c H1 locs1 (cells + 8) (slots + 63) Q (F0 m (pc + 4) ls (.ref a :: rest))) : W p l e R s m args below meth c H locs cells slots Q (F0 m pc ls (.int 8 :: .int 7 :: rest)) := by
  intro T hT X
  subst hT; subst hb
  have hpl : e.platform.magicAccessors = ({} : Platform).magicAccessors := by rw [X.admits.platform]
  obtain ⟨comp, cA, kA, hcomp, hkA, hkindA, hnameA⟩ := hX.2.1.1
  obtain ⟨comp', kC, ck, hcomp', hkC, hkindC⟩ := Cond.arrayClass_spec hai
  cases hcomp.symm.trans hcomp'
  have e103 : D.1 103 = cA := Option.some.inj (((hK.1.2 3 _ rfl).2 : s.vm.findClass _ = some (D.1 103)).symm.trans hnameA)
  have e100 : D.1 100 = comp := Option.some.inj (((hK.1.2 0 _ rfl).2 : s.vm.findClass _ = some (D.1 100)).symm.trans hcomp)
  subst e103; subst e100
  obtain ⟨c0, hfc0, hcl⟩ := Cond.classLink_spec hown hclink e.platform hpl
  cases hnameA.symm.trans hfc0
  obtain ⟨hg₁, hwarm₁, hready₁⟩ := State.classEntry (e := e) X.warmed hcl
  generalize T.vm.noted m.cls index (.cls (D.1 103)) = vm₁ at hg₁ hwarm₁ hready₁
  have hal : s.vm.Alike vm₁ := hwarm₁.alike
  obtain ⟨kA₁, hkA₁, heA⟩ := hal.2.2 _ _ hkA
  obtain ⟨kC₁, hkC₁, heC⟩ := hal.2.2 _ _ hkC
  have hkindA₁ : kA₁.kind = .array (D.1 100) (.array .int) := by rw [heA]; exact hkindA
  have hkindC₁ : kC₁.kind = .array ck .int := by rw [heC]; exact hkindC
  have X₁ := X.noted hwarm₁
  obtain ⟨hr1, hr2⟩ := X.roomAbove hcells hslots
  have XF := mq_stand X₁ (D.1 103) (D.1 100) 7
  obtain ⟨f1, f2, f3, f4, f5, f6⟩ := mq_facts (D.1 103) (D.1 100) (T.setVm vm₁) 7
  have hA2 : ∀ q, T.heap.size ≤ q → A q := fun q hq => hA q (Nat.le_trans hS.1 hq)
  obtain ⟨t, a1, b1⟩ := kk T.heap.size (mq (D.1 103) (D.1 100) (T.setVm vm₁) 7).heap (locs ++ (List.range 7).map fun j => ⟨T.heap.size, j⟩)
    (hI.multi hf rfl hA2 f5 (by rw [show T.heap.size = (T.setVm vm₁).heap.size from rfl, f2]; exact congrArg some (arrV_congr fun j hj => by rw [if_pos hj])) (fun j hj => f6 j hj))
    ⟨Nat.le_trans hS.1 (by rw [f1]; show T.heap.size ≤ T.heap.size + 1 + 7; omega), fun x h1 h2 => (f5 x (Nat.lt_of_lt_of_le h1 hS.1)).trans (hS.2.1 x h1 h2), fun q hq => by
      rcases List.mem_append.mp hq with h | h
      · exact hS.2.2 q h
      · obtain ⟨j, -, rfl⟩ := List.mem_map.mp h
        exact hA2 _ (Nat.le_refl _)⟩ _ rfl XF
  refine ⟨t, ?_, b1⟩
  have hl1 : ¬ 8 > e.platform.arrayLengthLimit := by rw [Launch.admits_arrayLengthLimit X.admits]; omega
  have hh1 : ¬ 32 > e.platform.maxHeapBytes := by rw [Launch.admits_maxHeapBytes X.admits]; omega
  jvm_step X.here [hexec, hdg]
  simp only [Op.multianewarray.sem, wp_bind', W.resolveClassAt_links (State.method?_setTop (F0 m pc ls (.int 8 :: .int 7 :: rest)) X.here.top) hg₁]
  rw [W.popN, if_neg (by decide)]
  refine ⟨F0 m pc ls (.int 8 :: .int 7 :: rest), State.topJava?_setTop' (s := T.setVm vm₁) _ X.here.top, [.int 7, .int 8], rest, rfl, rfl, ?_⟩
  simp only [List.mapM_cons, List.mapM_nil, wp_bind', wp_pure']
  refine mq_wp (k := kA₁) (kc := kC₁) hkA₁ hkindA₁ hkC₁ hkindC₁ hl1 hh1 (by show T.heap.size + 8 ≤ _; omega) (by show T.slotsUsed + 63 ≤ _; omega) (fun d' acts' => ?_)
  have eS : ((T.setTop (F0 m pc ls (.int 8 :: .int 7 :: rest))).setVm vm₁).setTop { F0 m pc ls (.int 8 :: .int 7 :: rest) with stack := rest } = (T.setVm vm₁).setTop { F0 m pc ls (.int 8 :: .int 7 :: rest) with stack := rest } := by
    show ((T.setVm vm₁).setTop _).setTop _ = _
    rw [State.setTop_setTop]
  rw [eS, mq_top]
  simp only [wp_bind', W.mark, W.pushRef, State.topJava?_setTop' _ XF.here.top, Option.some.injEq, exists_eq_left', State.setTop_setTop, State.heap_setTop]
  intro acts
  simp [jvm, XF.here.top]
  exact a1
