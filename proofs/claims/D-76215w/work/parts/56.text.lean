/-! the component's act text -/
theorem met_WS {l : Launch} {y : MethodName} {ws : List Cond} {rm : Room} {Qc : Array Value → State → Outcome → State → Prop} {mc ms : Nat} {free : Addr → Prop} {cc : ByteArray} {maxL : Nat} {ret : Option FieldType} {hh : List (Nat × Nat × Nat × Nat)} {D : va_G} {cf : cmap} {A : Nat → Prop} {σ : Nat × Nat × Value} {av : List Value} (hy : plainName y.cls = true) (hw0 : ws = Cond.codeWith y cc maxL ret hh :: lw_all) (hn : (lg_sl av).length ≤ maxL)
    (body : ∀ (p : Program) (e : Env) (s : State) (m : MethodId) (below : List Frame) (meth : Method) (c : Code) (ls : Array Slot), p.tables.exec = Jvm.exec → c.code = cc → meth.sig.returnType = ret → c.maxLocals = maxL → s.vm.findClass y.cls = some m.cls → (∀ w ∈ lw_all, w.before av.toArray s = true) → meth.locks = false → lv_has ls maxL (lv_args 0 av) → hw D cf A s.heap → KK D s → SS σ A s → c.exceptionTable.toList.map (fun h => (h.startPc, h.endPc, h.handlerPc, h.catchType)) = hh →
      W p l e rm s m av.toArray below meth c s.heap [] 0 0 (MQ below Qc av.toArray s mc ms free) (F0 m 0 ls [])) : Met l y ws rm (va_Pc av (pS D cf A σ)) Qc mc ms free := by
  refine va_MetW (cc := cc) (maxL := maxL) (ret := ret) (hh := hh) hy hw0 ?_
  intro p e s m args below meth c s₁ B hml hv
  obtain ⟨rfl, hI, hK, hSS⟩ := hv
  have hts := atoms_spec (ws := ws) B.pre
  have hl := lv_entry av (n := maxL) hn
  rw [lg_entry_eq]
  obtain ⟨m9, meth9, c9, hn9, h1, h2, -, -, h5, -, -, -⟩ := Cond.codeWith_spec (hts _ (by rw [hw0]; exact List.mem_cons_self))
  cases B.named.symm.trans hn9
  cases B.method.symm.trans h1
  cases (Stand.of_body B).code.symm.trans h2
  exact body p e s m below meth c _ B.exec B.bytes B.returns hml (findClass_of_methodNamed B.named) (fun w h => hts w (by rw [hw0]; exact List.mem_cons_of_mem _ h)) B.notSynchronized hl hI hK hSS h5
section XCP
variable {p : Program} {l : Launch} {e : Env} {R : Room} {s : State} {m : MethodId} {args : Array Value} {below : List Frame} {meth : Method} {c : Code} {H H0 : Heap} {locs : List Loc} {cells slots : Nat} {Q Q' : State → Prop}
variable {cc : ByteArray} {pc : Nat} {ls : Array Slot} {rest st0 : List Value} {A : Nat → Prop} {D : va_G} {cf cf' : cmap} {free : Addr → Prop} {Qc : Array Value → State → Outcome → State → Prop}
theorem x_catchP {own : String} {q : vw_C} {bq : Nat} {x1 : cst} {r1 : Nat ⊕ (cst × Option Value)} {L : Nat → Nat} {hp st en : Nat} {nm : String} {idx : Nat} {a : Array Value} (hr : XRun p l e R s m args below meth c H locs cells slots (F0 m pc ls st0) rest (pQ D L x1 A r1 a) A) (h1 : r1 = .inl bq) (hS : va_S A H0 H locs) (hown : s.vm.findClass own = some m.cls) (hlink : (Cond.classLink own idx nm).before args s = true) (hh : c.exceptionTable.toList.map (fun h => (h.startPc, h.endPc, h.handlerPc, h.catchType)) = [(st, en, hp, idx)]) (hc1 : st ≤ pc) (hc2 : pc < en) (h0 : idx ≠ 0) (hK : KK D s) (hcl : clA[3]? = some q) (hqn : q.1 = nm)
    (kk : ∀ (x' : cst), jk x1 x' → x'.2.1 1 2 = nI bq → ∀ (H1 : Heap) (locs1 : List Loc), hw D (cfC D L x') A H1 → va_S A H0 H1 locs1 → W p l e R s m args below meth c H1 locs1 cells slots Q (F0 m hp ls [.ref (L 47)])) : W p l e R s m args below meth c H locs cells slots Q (F0 m pc ls st0) := by
  subst h1
  intro T hT X
  obtain ⟨o, st₀, t, T', L2, hh0, X', hL, e1, ⟨⟨rfl, x', hj', hb', hI⟩, hz, hk⟩, stp⟩ := hr T hT X
  rw [hh0] at hz hk
  have hpl : e.platform.magicAccessors = ({} : Platform).magicAccessors := by rw [X'.admits.platform]
  obtain ⟨cT, hcT, hclk⟩ := Cond.classLink_spec hown hlink e.platform hpl
  obtain ⟨dk, _, _, kt, hd, _, _, _, _, hkt, _, hopen⟩ := hclk.here
  have hcl₀ := X'.warmed.classLinks hclk
  have hW' : s.WarmedH (T'.vm.noted m.cls idx (.cls cT)) := X'.warmed.noted hd hopen (State.rightAt_cls hclk)
  obtain ⟨hfc, kB, hkB, hkind⟩ := (hK.1.1 3 q hcl).2
  have hcTe : cT = D.1 3 := Option.some.inj (hcT.symm.trans (by rw [← hqn]; exact hfc))
  subst hcTe
  obtain ⟨⟨r9, hr9, cell, w1, w2, w3, -⟩, -⟩ := hI.1 47 _ _ cf_wrong
  have w1' : T'.heap[(L 47)]? = some cell := by rw [e1]; exact w1
  obtain ⟨x0, hx0, hx1⟩ : ∃ x0, c.exceptionTable.toList = [x0] ∧ (x0.startPc, x0.endPc, x0.handlerPc, x0.catchType) = (st, en, hp, idx) := by
    cases hl : c.exceptionTable.toList with
    | nil => rw [hl] at hh; cases hh
    | cons y0 t0 =>
      rw [hl] at hh
      cases t0 with
      | nil => exact ⟨y0, rfl, by simpa using hh⟩
      | cons y1 t1 => simp at hh
  simp only [Prod.mk.injEq] at hx1
  obtain ⟨z1, z2, z3, z4⟩ := hx1
  obtain ⟨kB', hkB', -⟩ := hW'.alike.2.2 _ _ hkB
  have hasg : (T'.vm.noted m.cls idx (.cls (D.1 3))).assignable (D.1 3) (D.1 3) = true := by rw [hW'.alike.assignable]; exact va_assign (hK.1.1 3 q hcl).2
  have hfind : ∀ (Q0 : Handler → Pre) (E : CtlPost) (d : Bool) (acts : List Action), wp (findHandler (F0 m pc ls rest) (L 47)) Q0 E e d acts ((T'.setTop (F0 m pc ls rest)).pushFrame (.throwing (L 47))) ↔ Q0 (.found hp) d acts (((T'.setTop (F0 m pc ls rest)).pushFrame (.throwing (L 47))).setVm (T'.vm.noted m.cls idx (.cls (D.1 3)))) := by
    have hvm := Stand.throwing_vm T' (F0 m pc ls rest) (L 47)
    have hhp := Stand.throwing_heap T' (F0 m pc ls rest) (L 47)
    rw [← z3]
    refine find_cold (T := (T'.setTop (F0 m pc ls rest)).pushFrame (.throwing (L 47))) (methF := meth) (codeF := c) (cT := D.1 3) (cell := cell) (by rw [hvm]; exact X'.method') X'.code hx0 (by simp only [covers, z1, z2]; simp [hc1, hc2]) (by rw [z4]; exact h0) (by rw [hvm, z4]; exact resolveClass_links e.toSetting hcl₀) ?_ (by rw [hhp]; exact w1') (fun k hk => by rw [w3] at hk; cases hk) ⟨kB', by rw [w2]; exact hkB'⟩ ⟨kB', hkB'⟩ (by rw [w2]; exact hasg)
    rw [hvm]
    exact Nat.le_of_eq (by simp [Vm.noted])
  obtain ⟨t2, a1, b1⟩ := kk x' hj' hb' T'.heap (locs ++ L2) (by rw [e1]; exact hI) ⟨Nat.le_trans hS.1 (by rw [e1]; exact hz), fun q h1 h2 => by rw [e1, hk q (Nat.lt_of_lt_of_le h1 hS.1) h2]; exact hS.2.1 q h1 h2, fun q hq => by
      rcases List.mem_append.mp hq with h | h
      · exact hS.2.2 q h
      · exact hL q h⟩ (T'.setVm (T'.vm.noted m.cls idx (.cls (D.1 3)))) rfl (X'.noted hW')
  exact ⟨t2, stp _ (caught_cold (g := F0 m pc ls rest) X'.here hfind a1), b1⟩
end XCP
def txC (x : cst) : Nat ⊕ (Nat × ps) → cst
  | .inl _ => xr x 0 0 0
  | .inr q => xs (xr x 0 0 0) 0 q.2.1
def txR : Nat ⊕ (Nat × ps) → Int32
  | .inl b => -1 - nI b
  | .inr q => nI q.1
theorem tx_jk (x : cst) : jk (xr x 0 0 0) (xs (xr (xr x 1 0 (x.2.1 0 0)) 0 0 0) 3 (x.1 0)) := by
  refine ⟨xs_ne (by decide), xs_ne (by decide), ?_, ?_, ?_, rfl⟩ <;> funext c <;> simp [xr, xs, u2_at]
theorem tx_jr {x x3 x5 : cst} {s : ps} (h : jk (xr x 0 0 0) x3) (e : x5 = rdX x3 s) : jk (xs (xr x 0 0 0) 0 s.1) (xs x5 0 (x5.1 3)) := by
  subst e
  obtain ⟨w, a, b, k, v⟩ := s
  rw [rd_w]
  have h2 : jk x3 (rdX x3 (w, a, b, k, v)) := by
    refine ⟨rd_wn _ _ _ _ _ _ (by decide), rd_wn _ _ _ _ _ _ (by decide), rd_r _ _ _ _ _ _ (by decide), rd_r _ _ _ _ _ _ (by decide), rd_r _ _ _ _ _ _ (by decide), rfl⟩
  exact jk_xs (h.trans h2) w
theorem k_X0_text {l : Launch} {D : va_G} {L : Nat → Nat} {A : Nat → Prop} {σ : Nat × Nat × Value} (x : cst) (hO : wOk (x.1 0)) (tn : Nat) (ht9 : tn ≤ 120) (et : x.2.1 0 0 = nI tn) (htp : tpOk (x.2.1 2)) (hσ : σ.2.2 = .null ∨ ∃ a, σ.2.2 = .ref a) (a b k v : Nat) (h1 : x.2.1 1 1 = nI a) (h2 : x.2.1 1 2 = nI b) (h3 : x.2.1 1 3 = nI k) (h4 : x.2.1 1 4 = nI v) : Met l yX0_text (wsW_ yX0_text cX0_text 2 (some .int) [((30 : Nat), (53 : Nat), (54 : Nat), (348 : Nat))]) ({ frames := 13, cells := 0, slots := 0, locals := 281 } : Room) (va_Pc [.ref (L 44)] (pS D (cfC D L x) A σ)) (jQ D L (txC x (txtP (x.2.1 2) tn (x.1 0, a, b, k, v))) A (some (.int (txR (txtP (x.2.1 2) tn (x.1 0, a, b, k, v)))))) 0 0 A := by
  refine met_WS (by decide) rfl (Nat.le_of_ble_eq_true rfl) ?_
  intro p e s m below meth c ls hx hb hr hml hown hts hlocks hl hI hK hSS hhh
  have F : CallFix p m c cX0_text 2 s _ lw_all RX0 := ⟨hx, hb, hml, hown, hts⟩
  have hl : lv_has ls 2 [(0, .ref (L 44))] := hl
  have hS : va_S A s.heap s.heap [] := va_S.rf
  refine lv_aload_n hx hb dX0_text_0 rfl (lv_at hl 0 rfl) ?_
  refine r_get (C := RX0) (T := TX0) (N := 11) hx hb hts in_X0 hown hK hI (cf_main) rfl 1 (by decide) (hts _ q397) (fun _ h => h) rfl dX0_text_1 ?_
  refine lv_aload_n hx hb dX0_text_4 rfl (lv_at hl 0 rfl) ?_
  refine r_get (C := RX0) (T := TX0) (N := 11) hx hb hts in_X0 hown hK hI (cf_main) rfl 2 (by decide) (hts _ q398) (fun _ h => h) rfl dX0_text_5 ?_
  obtain ⟨x1, ex1⟩ : ∃ z, z = xr x 1 0 (x.2.1 0 0) := ⟨_, rfl⟩
  refine r_putN (C := RX2) (T := TX2) (N := 8) (cf' := cfC D L x1) hx hb hts in_X2 tyX2 tyX2_ok nmX2 hown hK hI hS (cf_reader) rfl 3 (by decide) (nf_14 hK) (fun _ h => h) rfl (ty := .int) (by decide +kernel) rfl rfl (Nat.le_of_ble_eq_true rfl) (by rw [ex1]; exact cs_reader rfl) dX0_text_8 (fun H1 locs1 hI hS => ?_)
  refine lv_aload_n hx hb dX0_text_11 rfl (lv_at hl 0 rfl) ?_
  refine lv_iconst (v := 0) hx hb dX0_text_12 (by decide) ?_
  obtain ⟨x2, ex2⟩ : ∃ z, z = xr x1 0 0 0 := ⟨_, rfl⟩
  refine r_put (C := RX0) (T := TX0) (N := 11) (cf' := cfC D L x2) hx hb hts in_X0 tyX0 tyX0_ok nmX0 hown hK hI hS (cf_main) rfl 2 (by decide) (hts _ q398) (fun _ h => h) rfl (ty := .int) (by decide +kernel) rfl rfl (Nat.le_of_ble_eq_true rfl) (by rw [ex2]; exact cs_main rfl) dX0_text_13 (fun H1 locs1 hI hS => ?_)
  refine lv_aload_n hx hb dX0_text_16 rfl (lv_at hl 0 rfl) ?_
  refine r_get (C := RX0) (T := TX0) (N := 11) hx hb hts in_X0 hown hK hI (cf_main) rfl 1 (by decide) (hts _ q397) (fun _ h => h) rfl dX0_text_17 ?_
  refine r_getN (C := RX2) (T := TX2) (N := 8) hx hb hts in_X2 hown hK hI (cf_reader) rfl 2 (by decide) (nf_13 hK) (fun _ h => h) rfl dX0_text_20 ?_
  refine lv_aload_n hx hb dX0_text_23 rfl (lv_at hl 0 rfl) ?_
  refine r_get (C := RX0) (T := TX0) (N := 11) hx hb hts in_X0 hown hK hI (cf_main) rfl 3 (by decide) (hts _ q401) (fun _ h => h) rfl dX0_text_24 ?_
  refine c_m (k_V (As := [.ref (L (11 * 0))]) (rest := []) F (k_X4_become x2 3 (by decide) 0 (by decide) (by decide)) (cwV 1 hts (lw_V q776 q777 q778 q98 q779) rfl rfl rfl (by decide +kernel) ⟨Nat.le_of_ble_eq_true rfl, Nat.le_of_ble_eq_true rfl⟩) hI hK (hw.recv hI hK (cf_W (w := 3) (by decide)) rfl) rfl hl.1 rfl (Nat.le_of_ble_eq_true rfl) dX0_text_27 ⟨Nat.le_of_ble_eq_true rfl, Nat.le_of_ble_eq_true rfl⟩) hS (fun H1 locs1 hI hS => ?_)
  obtain ⟨x3, ex3⟩ : ∃ z, z = xs x2 3 (x2.1 0) := ⟨_, rfl⟩
  rw [← ex3] at hI
  refine lv_aload_n hx hb dX0_text_30 rfl (lv_at hl 0 rfl) ?_
  refine r_get (C := RX0) (T := TX0) (N := 11) hx hb hts in_X0 hown hK hI (cf_main) rfl 1 (by decide) (hts _ q397) (fun _ h => h) rfl dX0_text_31 ?_
  have e1 : x3.2.1 1 0 = nI tn := by rw [ex3, ex2, ex1]; show u2 (u2 x.2.1 1 0 (x.2.1 0 0)) 0 0 0 1 0 = _; rw [u2_ne (by decide), u2_at, if_pos ⟨rfl, rfl⟩]; exact et
  have e2 : x3.2.1 2 = x.2.1 2 := by rw [ex3, ex2, ex1]; funext c9; show u2 (u2 x.2.1 1 0 (x.2.1 0 0)) 0 0 0 2 c9 = _; rw [u2_ne (by decide), u2_ne (by decide)]
  have e3 : x3.2.1 1 1 = x.2.1 1 1 := by rw [ex3, ex2, ex1]; show u2 (u2 x.2.1 1 0 (x.2.1 0 0)) 0 0 0 1 1 = _; rw [u2_ne (by decide), u2_at, if_neg (by decide)]
  have e4 : x3.2.1 1 2 = x.2.1 1 2 := by rw [ex3, ex2, ex1]; show u2 (u2 x.2.1 1 0 (x.2.1 0 0)) 0 0 0 1 2 = _; rw [u2_ne (by decide), u2_at, if_neg (by decide)]
  have e5 : x3.2.1 1 3 = x.2.1 1 3 := by rw [ex3, ex2, ex1]; show u2 (u2 x.2.1 1 0 (x.2.1 0 0)) 0 0 0 1 3 = _; rw [u2_ne (by decide), u2_at, if_neg (by decide)]
  have e6 : x3.2.1 1 4 = x.2.1 1 4 := by rw [ex3, ex2, ex1]; show u2 (u2 x.2.1 1 0 (x.2.1 0 0)) 0 0 0 1 4 = _; rw [u2_ne (by decide), u2_at, if_neg (by decide)]
  have e7 : x3.1 3 = x.1 0 := by rw [ex3, ex2, ex1]; rw [xs_at]; rfl
  have hR : rOk x3 tn := ⟨e1, ht9, by rw [e2]; exact htp⟩
  have e8 : rdX x3 (x.1 0, a, b, k, v) = x3 := rd_self e7 (e3.trans h1) (e4.trans h2) (e5.trans h3) (e6.trans h4)
  have e9 : jk (xr x 0 0 0) x3 := by rw [ex3, ex2, ex1]; exact tx_jk x
  rw [← e8] at hI
  rcases hq : txtP (x.2.1 2) tn (x.1 0, a, b, k, v) with bq | ⟨z1, w1, a1, b1, k1, v1⟩
  · skip
    refine x_catchP (k_XP (n := 0) (As := []) (rest := []) F (k_X2_whole x3 tn hR hσ (x.1 0) a b k v hO) ⟨rfl, rfl⟩ ⟨Nat.le_of_ble_eq_true rfl, Nat.le_of_ble_eq_true rfl⟩ q948 q949 q950 q96 q951 (by decide +kernel) hI hK hSS hS (hw.recv hI hK (cf_reader) rfl) rfl hl.1 rfl (Nat.le_of_ble_eq_true rfl) dX0_text_34 ⟨Nat.le_of_ble_eq_true rfl, Nat.le_of_ble_eq_true rfl⟩) (by rw [e2, hq]; rfl) hS hown (hts _ q947) hhh (by decide) (by decide) (by decide) hK rfl rfl (fun x' hj hb9 H1 locs1 hI hS => ?_)
    refine lv_astore_n (lv' := [(1, .ref (L 47)), (0, .ref (L 44))]) hx hb dX0_text_54 rfl hl (by decide) rfl (fun ls hl => ?_)
    refine lv_iconst (v := (-1)) hx hb dX0_text_55 (by decide) ?_
    refine lv_aload_n hx hb dX0_text_56 rfl (lv_at hl 1 rfl) ?_
    refine r_get (C := RX0) (T := TX0) (N := 11) hx hb hts in_X0 hown hK hI (cf_main) rfl 1 (by decide) (hts _ q397) (fun _ h => h) rfl dX0_text_57 ?_
    refine r_getN (C := RX2) (T := TX2) (N := 8) hx hb hts in_X2 hown hK hI (cf_reader) rfl 5 (by decide) (nf_15 hK) (fun _ h => h) rfl dX0_text_60 ?_
    refine lv_isub hx hb dX0_text_63 ?_
    exact W.iret hx hb hr (fun t ht _ => ⟨rI (by rw [hb9]; rfl), ⟨x', (e9.trans (by rw [← e8]; exact hj)), by rw [ht]; exact hI⟩, hS.F ht⟩) hS.2.2 dX0_text_64
  · skip
    refine x_retP (k_XP (n := 0) (As := []) (rest := []) F (k_X2_whole x3 tn hR hσ (x.1 0) a b k v hO) ⟨rfl, rfl⟩ ⟨Nat.le_of_ble_eq_true rfl, Nat.le_of_ble_eq_true rfl⟩ q948 q949 q950 q96 q951 (by decide +kernel) hI hK hSS hS (hw.recv hI hK (cf_reader) rfl) rfl hl.1 rfl (Nat.le_of_ble_eq_true rfl) dX0_text_34 ⟨Nat.le_of_ble_eq_true rfl, Nat.le_of_ble_eq_true rfl⟩) (by rw [e2, hq]; rfl) hS (fun H1 locs1 hI hS => ?_)
    obtain ⟨x5, ex5⟩ : ∃ z, z = rdX x3 (w1, a1, b1, k1, v1) := ⟨_, rfl⟩
    rw [← ex5] at hI
    refine lv_istore_n (lv' := [(1, .int (nI z1)), (0, .ref (L 44))]) hx hb dX0_text_37 rfl hl (by decide) rfl (fun ls hl => ?_)
    refine lv_aload_n hx hb dX0_text_38 rfl (lv_at hl 1 rfl) ?_
    refine r_get (C := RX0) (T := TX0) (N := 11) hx hb hts in_X0 hown hK hI (cf_main) rfl 3 (by decide) (hts _ q401) (fun _ h => h) rfl dX0_text_39 ?_
    refine lv_aload_n hx hb dX0_text_42 rfl (lv_at hl 1 rfl) ?_
    refine r_get (C := RX0) (T := TX0) (N := 11) hx hb hts in_X0 hown hK hI (cf_main) rfl 1 (by decide) (hts _ q397) (fun _ h => h) rfl dX0_text_43 ?_
    refine r_getN (C := RX2) (T := TX2) (N := 8) hx hb hts in_X2 hown hK hI (cf_reader) rfl 2 (by decide) (nf_13 hK) (fun _ h => h) rfl dX0_text_46 ?_
    refine c_m (k_V (As := [.ref (L (11 * 3))]) (rest := []) F (k_X4_become x5 0 (by decide) 3 (by decide) (by decide)) (cwV 1 hts (lw_V q776 q777 q778 q98 q779) rfl rfl rfl (by decide +kernel) ⟨Nat.le_of_ble_eq_true rfl, Nat.le_of_ble_eq_true rfl⟩) hI hK (hw.recv hI hK (cf_W (w := 0) (by decide)) rfl) rfl hl.1 rfl (Nat.le_of_ble_eq_true rfl) dX0_text_49 ⟨Nat.le_of_ble_eq_true rfl, Nat.le_of_ble_eq_true rfl⟩) hS (fun H1 locs1 hI hS => ?_)
    obtain ⟨x4, ex4⟩ : ∃ z, z = xs x5 0 (x5.1 3) := ⟨_, rfl⟩
    rw [← ex4] at hI
    refine lv_iload_n hx hb dX0_text_52 rfl (lv_at hl 0 rfl) ?_
    exact W.iret hx hb hr (fun t ht _ => ⟨rI (rfl), ⟨x4, (by rw [ex4]; exact tx_jr e9 ex5), by rw [ht]; exact hI⟩, hS.F ht⟩) hS.2.2 dX0_text_53
