/-! calls of methods that have handlers -/
section KVW
variable {p : Program} {l : Launch} {e : Env} {R : Room} {s : State} {m : MethodId} {args : Array Value} {below : List Frame} {meth : Method} {c : Code} {H H0 : Heap} {locs : List Loc} {cells slots : Nat}
variable {cc : ByteArray} {pc : Nat} {ls : Array Slot} {rest st0 : List Value} {A : Nat → Prop} {D : va_G} {cf cf' : cmap} {free : Addr → Prop} {Qc : Array Value → State → Outcome → State → Prop}
variable {y : MethodName} {bytes : ByteArray} {maxL nL n index : Nat} {ret : Option FieldType} {rm : Room} {own C : String} {b i ci : Nat} {As : List Value} {hh : List (Nat × Nat × Nat × Nat)}
theorem k_VW (S : CallFix p m c cc nL s args lw_all own) (hM : Met l y (wsW_ y bytes maxL ret hh) rm (va_Pc (.ref b :: As) (pI D cf A)) Qc 0 0 free) (hrm : rm.cells = 0 ∧ rm.slots = 0) (hR : rm.frames + 1 ≤ R.frames ∧ 8 + (maxL + 11) + rm.locals ≤ R.locals)
    (q1 : Cond.methodLink own index y ∈ lw_all) (q2 : Cond.instanceMethod y ∈ lw_all) (q3 : Cond.selects C y y ∈ lw_all) (q4 : Cond.initialized y.cls ∈ lw_all) (q5 : Cond.codeWith y bytes maxL ret hh ∈ lw_all) (hd : y.cls ≠ "java/lang/invoke/MethodHandle" ∧ y.cls ≠ "java/lang/invoke/VarHandle" ∧ (parseMethodDescriptor y.desc).map (fun d => d.parameters.length) = some n)
    (hI : hw D cf A H) (hK : KK D s) (hr : ∃ cellB : Cell, H[b]? = some cellB ∧ cellB.vm.isStatics = false ∧ s.vm.findClass C = some cellB.cls)
    (hn : As.length = n) (hsize : ls.size = nL) (hstack : st0 = As.reverse ++ .ref b :: rest) (hW : (rest.map fun v => v.category).sum ≤ 8) (hdg : decode cc pc = .ok (.invokevirtual index, 3)) (hf : cells ≤ R.cells ∧ slots ≤ R.slots) :
    va_Run p l e R s m args below meth c H locs cells slots 0 0 (F0 m pc ls st0) rest (Qc (Value.ref b :: As).toArray) free := by
  obtain ⟨hx, hb, hml, hown, hts⟩ := S
  obtain ⟨cellB, hcB, hoB, hclB⟩ := hr
  obtain ⟨mk, methM, hnamed, hmethM, hstM, habM⟩ := Cond.instanceMethod_spec (hts _ q2)
  obtain ⟨mk', methM', cM, hnamed', hmethM', hcM, -, hlM, -, -, -, hsigM⟩ := Cond.codeWith_spec (hts _ q5)
  cases hnamed.symm.trans hnamed'
  cases hmethM.symm.trans hmethM'
  obtain ⟨c2, r2, m2, z1, z2, z3, z4, kP, hkP, hkPi⟩ := Cond.selects_spec (hts _ q3)
  cases hclB.symm.trans z1
  cases (State.methodFound?_of_named hnamed ⟨hd.1, hd.2.1⟩).symm.trans z2
  cases hnamed.symm.trans z3
  have hB : Back l R p e below s args y 3 8 (PreOf R 0 0 (va_Pc (.ref b :: As) (pI D cf A))) (PostOf Qc 0 0 free) := va_backW (bytes := bytes) (maxL := maxL) (ret := ret) (hh := hh) hM pI_blind hrm.1 hrm.2 hR.1 hR.2 (pay_in hts (lw_methW q5)) List.mem_cons_self (fun a' U hW => word_at hW (Or.inl (by first | rfl | simp [Cond.onTables, Cond.keeps, Cond.steady])) (hts _ q4))
  intro T hT X
  have hselP : selectMethod e.platform s.vm cellB.cls mk = .method mk := by rw [Launch.admits_selectMethod X.admits]; exact z4
  obtain ⟨vm₁, X₁, hstep₁⟩ := X.invokevirtual hx hown (hts _ q1) hnamed hmethM hstM hkP hkPi ⟨hd.1, hd.2.1⟩ (a := b) (cell := cellB) (by rw [hT]; exact hcB)
    (fun z h => by rw [h] at hoB; cases hoB) hselP hmethM habM hkP hkPi (g := F0 m pc ls st0) rfl (argsL := As) (rest := rest) (by have h2 := hd.2.2; rw [hsigM] at h2; rw [hn]; exact (Option.some.inj h2).symm) hstack (by rw [hb]; exact hdg)
  obtain ⟨v, ⟨U', l2, c2, s2⟩, X', ⟨g', mk', t, L, e1, e2, hq, h1, hL, h2, h3⟩, hsteps⟩ := hB m meth c ⟨T.setVm vm₁, locs, cells, slots⟩ (F0 m pc ls rest) (.invokevirtual index) mk (Value.ref b :: As).toArray X₁ rfl (hsize.trans hml.symm) (by rw [hb]; exact hdg) (lv_room (m := m) (pc := pc) (ls := ls) (rest := rest) hW) (X₁.named hnamed) ⟨hf.1, hf.2, pI_pre hI hK _ hT X₁.warmed⟩
  dsimp only [Pt.U, Pt.locs, Pt.cells, Pt.slots] at X' e1 e2 h1 h2 h3 hsteps
  subst h1; subst h2; subst h3
  exact ⟨v, (T.setVm vm₁).calling g' mk' (Value.ref b :: As).toArray, t, U', L, hT, X', hL, e1, e2, hq, fun target h => hstep₁ _ fun acts => by rw [doInvoke_state]; exact hsteps.trans h⟩
end KVW
/-! what will be -/
theorem xs_20 (x : cst) : xs (xs x 2 (x.1 0)) 0 (x.1 0) = xs x 2 (x.1 0) := by
  refine Prod.ext ?_ rfl
  funext k
  by_cases h : k = 0
  · subst h; rfl
  · simp [xs, h]
theorem xs_comm (x : cst) (f g : wd) : xs (xs x 0 f) 2 g = xs (xs x 2 g) 0 f := by
  refine Prod.ext ?_ rfl
  funext k
  by_cases h : k = 0
  · subst h; rfl
  · by_cases h2 : k = 2
    · subst h2; rfl
    · simp [xs, h, h2]
theorem xs_c0 (x : cst) (f g : wd) : (xs (xs x 2 g) 0 f).1 2 = g := by
  rw [xs_ne (by decide), xs_at]
theorem u2_u2 (f : wd) (r c : Nat) (v w : Int32) : u2 (u2 f r c v) r c w = u2 f r c w := by
  funext a
  by_cases h : a = r
  · subst h
    funext b
    by_cases h2 : b = c
    · subst h2; simp [u2, upd]
    · simp [u2, upd, h2]
  · rw [u2_ne h, u2_ne h, u2_ne h]
theorem u2_self (f : wd) (r c : Nat) : u2 f r c (f r c) = f := by
  funext a
  by_cases h : a = r
  · subst h
    funext b
    by_cases h2 : b = c
    · subst h2; simp [u2, upd]
    · simp [u2, upd, h2]
  · rw [u2_ne h]
theorem wOk_u {f : wd} (h : wOk f) {r k : Nat} {v : Int32} (hv : isN v (match r with | 2 => 7 | 3 => 6 | 4 => 10 | 5 => 65536 | 6 => 10000 | 7 => 65536 | 8 => 10000 | _ => 1000000000)) (hr : 2 ≤ r ∧ r < 9) : wOk (u2 f r k v) := by
  refine ⟨?_, fun j hj => gOk_u (h.2.1 j hj) (fun _ => hv), fun i hi => ?_, ?_, fun j hj => ?_⟩
  · rw [u2_ne (by omega)]; exact h.1
  · rw [u2_ne (by omega)]; exact h.2.2.1 i hi
  · rw [u2_ne (by omega)]; exact h.2.2.2.1
  · rw [u2_ne (by omega)]; exact h.2.2.2.2 j hj
def tbI (f : wd) (k r n : Nat) : Int32 := psn f n (2 + r) k
/-- the first of n, n + 1 .. for which P, within m steps; else n + m -/
def fstB (P : Nat → Bool) : Nat → Nat → Nat
  | 0, n => n
  | m + 1, n => if P n then n else fstB P m (n + 1)
theorem fstB_stop {P : Nat → Bool} {m n : Nat} (h : P n = true) (hm : 0 < m) : fstB P m n = n := by
  cases m with
  | zero => omega
  | succ m => simp [fstB, h]
theorem fstB_go {P : Nat → Bool} {m n : Nat} (h : P n = false) (hm : 0 < m) : fstB P m n = fstB P (m - 1) (n + 1) := by
  cases m with
  | zero => omega
  | succ m => simp [fstB, h]
def rhI (P : Nat → Bool) : Int32 := if fstB P 201 0 ≤ 200 then nI (fstB P 201 0) else -1
def p_hears (f : wd) (k : Nat) (t : Int32) (n : Nat) : Bool := decide (¬ hsI (psn f n (2 + 3) k) t = 0)
def p_wise (f : wd) (k : Nat) (v : Int32) (n : Nat) : Bool := decide (¬ bcI (psn f n (2 + 5) k) < v)
def p_out (f : wd) (t : Int32) (n : Nat) : Bool := decide (t &&& (kbI (psn f n) (allI (psn f n)) ^^^ (-1)) = 0)
def mbS (f : wd) (k r n : Nat) (v : Nat) (q : Int32 × Int32) : Int32 × Int32 := (if q.2 < bcI (tbI (u2 f (2 + r) k (nI v)) k 5 n) then nI v else q.1, mxI q.2 (bcI (tbI (u2 f (2 + r) k (nI v)) k 5 n)))
def mbI (f : wd) (k r many n : Nat) : Int32 := (itr (mbS f k r n) (0, -1) many).1
theorem k_X0_toldBehind {l : Launch} {D : va_G} {L : Nat → Nat} {A : Nat → Prop} (x : cst) (hO : wOk (x.1 0)) (hd : isN (x.1 0 1 2) 10000) (k r n : Nat) (hk : k < 8) (hr : r < 7) (hn : n ≤ 1000) : Met l yX0_toldBehind (wsW_ yX0_toldBehind cX0_toldBehind 6 (some .int) [((11 : Nat), (29 : Nat), (43 : Nat), (0 : Nat)), ((43 : Nat), (45 : Nat), (43 : Nat), (0 : Nat))]) ({ frames := 7, cells := 0, slots := 0, locals := 152 } : Room) (va_Pc [.ref (L 44), .int (nI k), .int (nI r), .int (nI n)] (pI D (cfC D L x) A)) (nQ D (cfC D L (xs x 2 (x.1 0))) A (some (.int (tbI (x.1 0) k r n)))) 0 0 A := by
  refine met_W (by decide) rfl (Nat.le_of_ble_eq_true rfl) ?_
  intro p e s m below meth c ls hx hb hr hml hown hts hlocks hl hI hK hhh
  have F : CallFix p m c cX0_toldBehind 6 s _ lw_all RX0 := ⟨hx, hb, hml, hown, hts⟩
  have hl : lv_has ls 6 [(0, .ref (L 44)), (1, .int (nI k)), (2, .int (nI r)), (3, .int (nI n))] := hl
  have hS : va_S A s.heap s.heap [] := va_S.rf
  refine lv_aload_n hx hb dX0_toldBehind_0 rfl (lv_at hl 0 rfl) ?_
  refine r_get (C := RX0) (T := TX0) (N := 11) hx hb hts in_X0 hown hK hI (cf_main) rfl 5 (by decide) (hts _ q403) (fun _ h => h) rfl dX0_toldBehind_1 ?_
  refine lv_aload_n hx hb dX0_toldBehind_4 rfl (lv_at hl 0 rfl) ?_
  refine r_get (C := RX0) (T := TX0) (N := 11) hx hb hts in_X0 hown hK hI (cf_main) rfl 3 (by decide) (hts _ q401) (fun _ h => h) rfl dX0_toldBehind_5 ?_
  refine c_m (k_V (As := [.ref (L (11 * 0))]) (rest := []) F (k_X4_become x 2 (by decide) 0 (by decide) (by decide)) (cwV 1 hts (lw_V q776 q777 q778 q98 q779) rfl rfl rfl (by decide +kernel) ⟨Nat.le_of_ble_eq_true rfl, Nat.le_of_ble_eq_true rfl⟩) hI hK (hw.recv hI hK (cf_W (w := 2) (by decide)) rfl) rfl hl.1 rfl (Nat.le_of_ble_eq_true rfl) dX0_toldBehind_8 ⟨Nat.le_of_ble_eq_true rfl, Nat.le_of_ble_eq_true rfl⟩) hS (fun H1 locs1 hI hS => ?_)
  obtain ⟨x1, ex1⟩ : ∃ z, z = xs x 2 (x.1 0) := ⟨_, rfl⟩
  rw [← ex1] at hI
  have hO_x1 : wOk (x1.1 0) := by rw [ex1, xs_ne (by decide)]; exact hO
  have hd_x1 : isN (x1.1 0 1 2) 10000 := by rw [ex1, xs_ne (by decide)]; exact hd
  refine lv_aload_n hx hb dX0_toldBehind_11 rfl (lv_at hl 0 rfl) ?_
  refine lv_iload_n hx hb dX0_toldBehind_12 rfl (lv_at hl 3 rfl) ?_
  refine c_m (k_V (As := [.int (nI n)]) (rest := []) F (k_X0_passes x1 (hO_x1) (hd_x1) n (by omega)) (cwV 1 hts (lw_V q709 q711 qs8 q91 q712) rfl rfl rfl (by decide +kernel) ⟨Nat.le_of_ble_eq_true rfl, Nat.le_of_ble_eq_true rfl⟩) hI hK (hw.recv hI hK (cf_main) rfl) rfl hl.1 rfl (Nat.le_of_ble_eq_true rfl) dX0_toldBehind_13 ⟨Nat.le_of_ble_eq_true rfl, Nat.le_of_ble_eq_true rfl⟩) hS (fun H1 locs1 hI hS => ?_)
  obtain ⟨x2, ex2⟩ : ∃ z, z = xs x1 0 (psn (x1.1 0) n) := ⟨_, rfl⟩
  rw [← ex2] at hI
  refine lv_aload_n hx hb dX0_toldBehind_16 rfl (lv_at hl 0 rfl) ?_
  refine r_get (C := RX0) (T := TX0) (N := 11) hx hb hts in_X0 hown hK hI (cf_main) rfl 3 (by decide) (hts _ q401) (fun _ h => h) rfl dX0_toldBehind_17 ?_
  refine r_getN (C := RX4) (T := TX4) (N := 7) hx hb hts in_X4 hown hK hI (cf_W (w := 0) (by decide)) rfl 2 (by decide) (nf_7 hK) (fun _ h => h) rfl dX0_toldBehind_20 ?_
  refine lv_iload_n hx hb dX0_toldBehind_23 rfl (lv_at hl 2 rfl) ?_
  refine n_aaldI (f := fun r => L (11 * 0 + 3 + r)) (k := r) hx hb hK hI (cf_glove (w := 0) (by decide)) (rfl) (by omega) (by decide) dX0_toldBehind_24 ?_
  refine lv_iload_n hx hb dX0_toldBehind_25 rfl (lv_at hl 1 rfl) ?_
  refine n_iald (k := k) hx hb hK hI (cf_row (w := 0) (r := r) (by decide) (by omega)) (rfl) (by omega) (by decide) dX0_toldBehind_26 ?_
  refine lv_istore (lv' := [(4, .int (x2.1 0 (2 + r) k)), (0, .ref (L 44)), (1, .int (nI k)), (2, .int (nI r)), (3, .int (nI n))]) hx hb dX0_toldBehind_27 hl (by decide) rfl (fun ls hl => ?_)
  refine lv_aload_n hx hb dX0_toldBehind_29 rfl (lv_at hl 1 rfl) ?_
  refine r_get (C := RX0) (T := TX0) (N := 11) hx hb hts in_X0 hown hK hI (cf_main) rfl 3 (by decide) (hts _ q401) (fun _ h => h) rfl dX0_toldBehind_30 ?_
  refine lv_aload_n hx hb dX0_toldBehind_33 rfl (lv_at hl 1 rfl) ?_
  refine r_get (C := RX0) (T := TX0) (N := 11) hx hb hts in_X0 hown hK hI (cf_main) rfl 5 (by decide) (hts _ q403) (fun _ h => h) rfl dX0_toldBehind_34 ?_
  refine c_m (k_V (As := [.ref (L (11 * 2))]) (rest := []) F (k_X4_become x2 0 (by decide) 2 (by decide) (by decide)) (cwV 1 hts (lw_V q776 q777 q778 q98 q779) rfl rfl rfl (by decide +kernel) ⟨Nat.le_of_ble_eq_true rfl, Nat.le_of_ble_eq_true rfl⟩) hI hK (hw.recv hI hK (cf_W (w := 0) (by decide)) rfl) rfl hl.1 rfl (Nat.le_of_ble_eq_true rfl) dX0_toldBehind_37 ⟨Nat.le_of_ble_eq_true rfl, Nat.le_of_ble_eq_true rfl⟩) hS (fun H1 locs1 hI hS => ?_)
  obtain ⟨x3, ex3⟩ : ∃ z, z = xs x2 0 (x2.1 2) := ⟨_, rfl⟩
  rw [← ex3] at hI
  refine lv_iload hx hb dX0_toldBehind_40 (lv_at hl 0 rfl) ?_
  exact W.iret hx hb hr (fun t ht _ => ⟨rI (by rw [ex2, xs_at, ex1, xs_ne (by decide)]; rfl), by rw [ht]; exact hw_eq hI (congrArg (cfC D L) (by rw [ex3, ex2, ex1]; simp only [xs_at, xs_ne (show (0 : Nat) ≠ 2 by decide), xs_ne (show (2 : Nat) ≠ 0 by decide), xs_xs]; exact xs_20 x)), hS.F ht⟩) hS.2.2 dX0_toldBehind_42
set_option maxHeartbeats 1000000 in
theorem k_X0_heardBehind {l : Launch} {D : va_G} {L : Nat → Nat} {A : Nat → Prop} (x : cst) (hO : wOk (x.1 0)) (hd : isN (x.1 0 1 2) 10000) (k : Nat) (t : Int32) (hk : k < 8) : Met l yX0_heardBehind (wsW_ yX0_heardBehind cX0_heardBehind 6 (some .int) [((11 : Nat), (62 : Nat), (76 : Nat), (0 : Nat)), ((76 : Nat), (78 : Nat), (76 : Nat), (0 : Nat))]) ({ frames := 6, cells := 0, slots := 0, locals := 130 } : Room) (va_Pc [.ref (L 44), .int (nI k), .int t] (pI D (cfC D L x) A)) (nQ D (cfC D L (xs x 2 (x.1 0))) A (some (.int (rhI (p_hears (x.1 0) k t))))) 0 0 A := by
  refine met_W (by decide) rfl (Nat.le_of_ble_eq_true rfl) ?_
  intro p e s m below meth c ls hx hb hr hml hown hts hlocks hl hI hK hhh
  have F : CallFix p m c cX0_heardBehind 6 s _ lw_all RX0 := ⟨hx, hb, hml, hown, hts⟩
  have hl : lv_has ls 6 [(0, .ref (L 44)), (1, .int (nI k)), (2, .int t)] := hl
  have hS : va_S A s.heap s.heap [] := va_S.rf
  refine lv_aload_n hx hb dX0_heardBehind_0 rfl (lv_at hl 0 rfl) ?_
  refine r_get (C := RX0) (T := TX0) (N := 11) hx hb hts in_X0 hown hK hI (cf_main) rfl 5 (by decide) (hts _ q403) (fun _ h => h) rfl dX0_heardBehind_1 ?_
  refine lv_aload_n hx hb dX0_heardBehind_4 rfl (lv_at hl 0 rfl) ?_
  refine r_get (C := RX0) (T := TX0) (N := 11) hx hb hts in_X0 hown hK hI (cf_main) rfl 3 (by decide) (hts _ q401) (fun _ h => h) rfl dX0_heardBehind_5 ?_
  refine c_m (k_V (As := [.ref (L (11 * 0))]) (rest := []) F (k_X4_become x 2 (by decide) 0 (by decide) (by decide)) (cwV 1 hts (lw_V q776 q777 q778 q98 q779) rfl rfl rfl (by decide +kernel) ⟨Nat.le_of_ble_eq_true rfl, Nat.le_of_ble_eq_true rfl⟩) hI hK (hw.recv hI hK (cf_W (w := 2) (by decide)) rfl) rfl hl.1 rfl (Nat.le_of_ble_eq_true rfl) dX0_heardBehind_8 ⟨Nat.le_of_ble_eq_true rfl, Nat.le_of_ble_eq_true rfl⟩) hS (fun H1 locs1 hI hS => ?_)
  obtain ⟨x1, ex1⟩ : ∃ z, z = xs x 2 (x.1 0) := ⟨_, rfl⟩
  rw [← ex1] at hI
  have hO_x1 : wOk (x1.1 0) := by rw [ex1, xs_ne (by decide)]; exact hO
  have hd_x1 : isN (x1.1 0 1 2) 10000 := by rw [ex1, xs_ne (by decide)]; exact hd
  refine lv_iconst (v := 0) hx hb dX0_heardBehind_11 (by decide) ?_
  refine lv_istore_n (lv' := [(3, .int 0), (0, .ref (L 44)), (1, .int (nI k)), (2, .int t)]) hx hb dX0_heardBehind_12 rfl hl (by decide) rfl (fun ls hl => ?_)
  have lp13 : ∀ (fuel : Nat) (i : Nat), (i ≤ 201) → (fstB (p_hears (x.1 0) k t) 201 0 = fstB (p_hears (x.1 0) k t) (201 - i) i) → 201 - i < fuel → ∀ (v3 : Int32), v3 = nI i → ∀ (xc13 : cst), xc13 = xs (xs x 2 (x.1 0)) 0 (psn (x.1 0) i) → ∀ (H : Heap) (locs : List Loc), hw D (cfC D L xc13) A H → va_S A s.heap H locs → ∀ (ls : Array Slot), lv_has ls 6 [(0, .ref (L 44)), (1, .int (nI k)), (2, .int t), (3, .int v3)] → W p l e ({ frames := 6, cells := 0, slots := 0, locals := 130 } : Room) s m ([.ref (L 44), .int (nI k), .int t] : List Value).toArray below meth c H locs 0 0 (MQ below (nQ D (cfC D L (xs x 2 (x.1 0))) A (some (.int (rhI (p_hears (x.1 0) k t))))) ([.ref (L 44), .int (nI k), .int t] : List Value).toArray s 0 0 A) (F0 m 13 ls []) := by
    intro fuel
    induction fuel with
    | zero => intro i hi hp hf; exact absurd hf (Nat.not_lt_zero _)
    | succ fuel ih13 =>
      intro i hi hp hf13 v3 e3  xc13 exc13 H locs hI hS ls hl
      subst e3
      have hO_xc13 : wOk (xc13.1 0) := by rw [exc13, xs_at]; exact wOk_psn hO hd i (by omega)
      have hf13 : xc13.1 0 = psn (x.1 0) i := by rw [exc13, xs_at]
      refine lv_iload_n hx hb dX0_heardBehind_13 rfl (lv_at hl 3 rfl) ?_
      refine lv_sipush (v := 200) hx hb dX0_heardBehind_14 (by decide) ?_
      refine lv_icmp_gt (tgt := 48) hx hb dX0_heardBehind_17 (by decide) (fun c_17 => ?_) (fun c_17 => ?_)
      · skip
        have c_17 : 200 < i := (nlt (a := 200) (b := i) (rfl) (rfl) (by omega) (by omega)).mp c_17
        refine lv_iload_n hx hb dX0_heardBehind_48 rfl (lv_at hl 3 rfl) ?_
        refine lv_sipush (v := 200) hx hb dX0_heardBehind_49 (by decide) ?_
        refine lv_icmp_gt (tgt := 59) hx hb dX0_heardBehind_52 (by decide) (fun c_52 => ?_) (fun c_52 => ?_)
        · skip
          have c_52 : 200 < i := (nlt (a := 200) (b := i) (rfl) (rfl) (by omega) (by omega)).mp c_52
          refine lv_iconst (v := (-1)) hx hb dX0_heardBehind_59 (by decide) ?_
          refine lv_istore (lv' := [(4, .int (-1)), (0, .ref (L 44)), (1, .int (nI k)), (2, .int t), (3, .int (nI i))]) hx hb dX0_heardBehind_60 hl (by decide) rfl (fun ls hl => ?_)
          refine lv_aload_n hx hb dX0_heardBehind_62 rfl (lv_at hl 1 rfl) ?_
          refine r_get (C := RX0) (T := TX0) (N := 11) hx hb hts in_X0 hown hK hI (cf_main) rfl 3 (by decide) (hts _ q401) (fun _ h => h) rfl dX0_heardBehind_63 ?_
          refine lv_aload_n hx hb dX0_heardBehind_66 rfl (lv_at hl 1 rfl) ?_
          refine r_get (C := RX0) (T := TX0) (N := 11) hx hb hts in_X0 hown hK hI (cf_main) rfl 5 (by decide) (hts _ q403) (fun _ h => h) rfl dX0_heardBehind_67 ?_
          refine c_m (k_V (As := [.ref (L (11 * 2))]) (rest := []) F (k_X4_become xc13 0 (by decide) 2 (by decide) (by decide)) (cwV 1 hts (lw_V q776 q777 q778 q98 q779) rfl rfl rfl (by decide +kernel) ⟨Nat.le_of_ble_eq_true rfl, Nat.le_of_ble_eq_true rfl⟩) hI hK (hw.recv hI hK (cf_W (w := 0) (by decide)) rfl) rfl hl.1 rfl (Nat.le_of_ble_eq_true rfl) dX0_heardBehind_70 ⟨Nat.le_of_ble_eq_true rfl, Nat.le_of_ble_eq_true rfl⟩) hS (fun H1 locs1 hI hS => ?_)
          obtain ⟨x2, ex2⟩ : ∃ z, z = xs xc13 0 (xc13.1 2) := ⟨_, rfl⟩
          rw [← ex2] at hI
          refine lv_iload hx hb dX0_heardBehind_73 (lv_at hl 0 rfl) ?_
          exact W.iret hx hb hr (fun t ht _ => ⟨rI (by first | (exfalso; omega) | (rw [rhI, hp, show i = 201 by omega]; rfl) | (rw [hf13] at c_35; rw [rhI, hp, fstB_stop (by first | exact decide_eq_true c_35 | exact decide_eq_false c_35 | exact decide_eq_false (not_not_intro c_35)) (by omega), if_pos (by omega)]; done)), by rw [ht]; exact hw_eq hI (congrArg (cfC D L) (by rw [ex2, exc13]; simp only [xs_at, xs_c0, xs_xs]; exact xs_20 x)), hS.F ht⟩) hS.2.2 dX0_heardBehind_75
        · skip
          have c_52 : ¬ 200 < i := fun z => c_52 ((nlt (a := 200) (b := i) (rfl) (rfl) (by omega) (by omega)).mpr z)
          refine lv_iload_n hx hb dX0_heardBehind_55 rfl (lv_at hl 3 rfl) ?_
          refine lv_goto (tgt := 60) hx hb dX0_heardBehind_56 (by decide) ?_
          refine lv_istore (lv' := [(4, .int (nI i)), (0, .ref (L 44)), (1, .int (nI k)), (2, .int t), (3, .int (nI i))]) hx hb dX0_heardBehind_60 hl (by decide) rfl (fun ls hl => ?_)
          refine lv_aload_n hx hb dX0_heardBehind_62 rfl (lv_at hl 1 rfl) ?_
          refine r_get (C := RX0) (T := TX0) (N := 11) hx hb hts in_X0 hown hK hI (cf_main) rfl 3 (by decide) (hts _ q401) (fun _ h => h) rfl dX0_heardBehind_63 ?_
          refine lv_aload_n hx hb dX0_heardBehind_66 rfl (lv_at hl 1 rfl) ?_
          refine r_get (C := RX0) (T := TX0) (N := 11) hx hb hts in_X0 hown hK hI (cf_main) rfl 5 (by decide) (hts _ q403) (fun _ h => h) rfl dX0_heardBehind_67 ?_
          refine c_m (k_V (As := [.ref (L (11 * 2))]) (rest := []) F (k_X4_become xc13 0 (by decide) 2 (by decide) (by decide)) (cwV 1 hts (lw_V q776 q777 q778 q98 q779) rfl rfl rfl (by decide +kernel) ⟨Nat.le_of_ble_eq_true rfl, Nat.le_of_ble_eq_true rfl⟩) hI hK (hw.recv hI hK (cf_W (w := 0) (by decide)) rfl) rfl hl.1 rfl (Nat.le_of_ble_eq_true rfl) dX0_heardBehind_70 ⟨Nat.le_of_ble_eq_true rfl, Nat.le_of_ble_eq_true rfl⟩) hS (fun H1 locs1 hI hS => ?_)
          obtain ⟨x3, ex3⟩ : ∃ z, z = xs xc13 0 (xc13.1 2) := ⟨_, rfl⟩
          rw [← ex3] at hI
          refine lv_iload hx hb dX0_heardBehind_73 (lv_at hl 0 rfl) ?_
          exact W.iret hx hb hr (fun t ht _ => ⟨rI (by first | (exfalso; omega) | (rw [rhI, hp, show i = 201 by omega]; rfl) | (rw [hf13] at c_35; rw [rhI, hp, fstB_stop (by first | exact decide_eq_true c_35 | exact decide_eq_false c_35 | exact decide_eq_false (not_not_intro c_35)) (by omega), if_pos (by omega)]; done)), by rw [ht]; exact hw_eq hI (congrArg (cfC D L) (by rw [ex3, exc13]; simp only [xs_at, xs_c0, xs_xs]; exact xs_20 x)), hS.F ht⟩) hS.2.2 dX0_heardBehind_75
      · skip
        have c_17 : ¬ 200 < i := fun z => c_17 ((nlt (a := 200) (b := i) (rfl) (rfl) (by omega) (by omega)).mpr z)
        refine lv_aload_n hx hb dX0_heardBehind_20 rfl (lv_at hl 0 rfl) ?_
        refine r_get (C := RX0) (T := TX0) (N := 11) hx hb hts in_X0 hown hK hI (cf_main) rfl 3 (by decide) (hts _ q401) (fun _ h => h) rfl dX0_heardBehind_21 ?_
        refine r_getN (C := RX4) (T := TX4) (N := 7) hx hb hts in_X4 hown hK hI (cf_W (w := 0) (by decide)) rfl 2 (by decide) (nf_7 hK) (fun _ h => h) rfl dX0_heardBehind_24 ?_
        refine lv_iconst (v := 3) hx hb dX0_heardBehind_27 (by decide) ?_
        refine n_aaldI (f := fun r => L (11 * 0 + 3 + r)) (k := 3) hx hb hK hI (cf_glove (w := 0) (by decide)) (rfl) (by decide) (by decide) dX0_heardBehind_28 ?_
        refine lv_iload_n hx hb dX0_heardBehind_29 rfl (lv_at hl 1 rfl) ?_
        refine n_iald (k := k) hx hb hK hI (cf_row (w := 0) (r := 3) (by decide) (by decide)) (rfl) (by omega) (by decide) dX0_heardBehind_30 ?_
        refine lv_iload_n hx hb dX0_heardBehind_31 rfl (lv_at hl 2 rfl) ?_
        refine c_r (k_S (As := [.int (xc13.1 0 (2 + 3) k), .int t]) (rest := []) F (k_X0_has (xc13.1 0 (2 + 3) k) t) (va_cwS 2 hts (lw_S q481 q475 q91 q476) rfl rfl rfl (by decide +kernel) ⟨Nat.le_of_ble_eq_true rfl, Nat.le_of_ble_eq_true rfl⟩) rfl hl.1 rfl (Nat.le_of_ble_eq_true rfl) dX0_heardBehind_32 ⟨Nat.le_of_ble_eq_true rfl, Nat.le_of_ble_eq_true rfl⟩) ?_
        refine lv_if_ne (tgt := 48) hx hb dX0_heardBehind_35 (by decide) (fun c_35 => ?_) (fun c_35 => ?_)
        · skip
          refine lv_iload_n hx hb dX0_heardBehind_48 rfl (lv_at hl 3 rfl) ?_
          refine lv_sipush (v := 200) hx hb dX0_heardBehind_49 (by decide) ?_
          refine lv_icmp_gt (tgt := 59) hx hb dX0_heardBehind_52 (by decide) (fun c_52 => ?_) (fun c_52 => ?_)
          · skip
            have c_52 : 200 < i := (nlt (a := 200) (b := i) (rfl) (rfl) (by omega) (by omega)).mp c_52
            refine lv_iconst (v := (-1)) hx hb dX0_heardBehind_59 (by decide) ?_
            refine lv_istore (lv' := [(4, .int (-1)), (0, .ref (L 44)), (1, .int (nI k)), (2, .int t), (3, .int (nI i))]) hx hb dX0_heardBehind_60 hl (by decide) rfl (fun ls hl => ?_)
            refine lv_aload_n hx hb dX0_heardBehind_62 rfl (lv_at hl 1 rfl) ?_
            refine r_get (C := RX0) (T := TX0) (N := 11) hx hb hts in_X0 hown hK hI (cf_main) rfl 3 (by decide) (hts _ q401) (fun _ h => h) rfl dX0_heardBehind_63 ?_
            refine lv_aload_n hx hb dX0_heardBehind_66 rfl (lv_at hl 1 rfl) ?_
            refine r_get (C := RX0) (T := TX0) (N := 11) hx hb hts in_X0 hown hK hI (cf_main) rfl 5 (by decide) (hts _ q403) (fun _ h => h) rfl dX0_heardBehind_67 ?_
            refine c_m (k_V (As := [.ref (L (11 * 2))]) (rest := []) F (k_X4_become xc13 0 (by decide) 2 (by decide) (by decide)) (cwV 1 hts (lw_V q776 q777 q778 q98 q779) rfl rfl rfl (by decide +kernel) ⟨Nat.le_of_ble_eq_true rfl, Nat.le_of_ble_eq_true rfl⟩) hI hK (hw.recv hI hK (cf_W (w := 0) (by decide)) rfl) rfl hl.1 rfl (Nat.le_of_ble_eq_true rfl) dX0_heardBehind_70 ⟨Nat.le_of_ble_eq_true rfl, Nat.le_of_ble_eq_true rfl⟩) hS (fun H1 locs1 hI hS => ?_)
            obtain ⟨x4, ex4⟩ : ∃ z, z = xs xc13 0 (xc13.1 2) := ⟨_, rfl⟩
            rw [← ex4] at hI
            refine lv_iload hx hb dX0_heardBehind_73 (lv_at hl 0 rfl) ?_
            exact W.iret hx hb hr (fun t ht _ => ⟨rI (by first | (exfalso; omega) | (rw [rhI, hp, show i = 201 by omega]; rfl) | (rw [hf13] at c_35; rw [rhI, hp, fstB_stop (by first | exact decide_eq_true c_35 | exact decide_eq_false c_35 | exact decide_eq_false (not_not_intro c_35)) (by omega), if_pos (by omega)]; done)), by rw [ht]; exact hw_eq hI (congrArg (cfC D L) (by rw [ex4, exc13]; simp only [xs_at, xs_c0, xs_xs]; exact xs_20 x)), hS.F ht⟩) hS.2.2 dX0_heardBehind_75
          · skip
            have c_52 : ¬ 200 < i := fun z => c_52 ((nlt (a := 200) (b := i) (rfl) (rfl) (by omega) (by omega)).mpr z)
            refine lv_iload_n hx hb dX0_heardBehind_55 rfl (lv_at hl 3 rfl) ?_
            refine lv_goto (tgt := 60) hx hb dX0_heardBehind_56 (by decide) ?_
            refine lv_istore (lv' := [(4, .int (nI i)), (0, .ref (L 44)), (1, .int (nI k)), (2, .int t), (3, .int (nI i))]) hx hb dX0_heardBehind_60 hl (by decide) rfl (fun ls hl => ?_)
            refine lv_aload_n hx hb dX0_heardBehind_62 rfl (lv_at hl 1 rfl) ?_
            refine r_get (C := RX0) (T := TX0) (N := 11) hx hb hts in_X0 hown hK hI (cf_main) rfl 3 (by decide) (hts _ q401) (fun _ h => h) rfl dX0_heardBehind_63 ?_
            refine lv_aload_n hx hb dX0_heardBehind_66 rfl (lv_at hl 1 rfl) ?_
            refine r_get (C := RX0) (T := TX0) (N := 11) hx hb hts in_X0 hown hK hI (cf_main) rfl 5 (by decide) (hts _ q403) (fun _ h => h) rfl dX0_heardBehind_67 ?_
            refine c_m (k_V (As := [.ref (L (11 * 2))]) (rest := []) F (k_X4_become xc13 0 (by decide) 2 (by decide) (by decide)) (cwV 1 hts (lw_V q776 q777 q778 q98 q779) rfl rfl rfl (by decide +kernel) ⟨Nat.le_of_ble_eq_true rfl, Nat.le_of_ble_eq_true rfl⟩) hI hK (hw.recv hI hK (cf_W (w := 0) (by decide)) rfl) rfl hl.1 rfl (Nat.le_of_ble_eq_true rfl) dX0_heardBehind_70 ⟨Nat.le_of_ble_eq_true rfl, Nat.le_of_ble_eq_true rfl⟩) hS (fun H1 locs1 hI hS => ?_)
            obtain ⟨x5, ex5⟩ : ∃ z, z = xs xc13 0 (xc13.1 2) := ⟨_, rfl⟩
            rw [← ex5] at hI
            refine lv_iload hx hb dX0_heardBehind_73 (lv_at hl 0 rfl) ?_
            exact W.iret hx hb hr (fun t ht _ => ⟨rI (by first | (exfalso; omega) | (rw [rhI, hp, show i = 201 by omega]; rfl) | (rw [hf13] at c_35; rw [rhI, hp, fstB_stop (by first | exact decide_eq_true c_35 | exact decide_eq_false c_35 | exact decide_eq_false (not_not_intro c_35)) (by omega), if_pos (by omega)]; done)), by rw [ht]; exact hw_eq hI (congrArg (cfC D L) (by rw [ex5, exc13]; simp only [xs_at, xs_c0, xs_xs]; exact xs_20 x)), hS.F ht⟩) hS.2.2 dX0_heardBehind_75
        · skip
          refine lv_aload_n hx hb dX0_heardBehind_38 rfl (lv_at hl 0 rfl) ?_
          refine c_m (k_V (As := []) (rest := []) F (k_X0_passes_2 xc13 (hO_xc13)) (cwV 0 hts (lw_V q713 q715 qs9 q91 q716) rfl rfl rfl (by decide +kernel) ⟨Nat.le_of_ble_eq_true rfl, Nat.le_of_ble_eq_true rfl⟩) hI hK (hw.recv hI hK (cf_main) rfl) rfl hl.1 rfl (Nat.le_of_ble_eq_true rfl) dX0_heardBehind_39 ⟨Nat.le_of_ble_eq_true rfl, Nat.le_of_ble_eq_true rfl⟩) hS (fun H1 locs1 hI hS => ?_)
          obtain ⟨x6, ex6⟩ : ∃ z, z = xs xc13 0 (psw (xc13.1 0)) := ⟨_, rfl⟩
          rw [← ex6] at hI
          refine lv_iinc (v := (nI (i + 1))) (lv' := [(3, .int (nI (i + 1))), (0, .ref (L 44)), (1, .int (nI k)), (2, .int t)]) hx hb dX0_heardBehind_42 hl (k := 3) rfl (nI_1 _) (by decide) rfl (fun ls hl => ?_)
          refine lv_goto (tgt := 13) hx hb dX0_heardBehind_45 (by decide) ?_
          exact ih13 (i + 1) (by omega) (by rw [hp, fstB_go (by rw [hf13] at c_35; first | exact decide_eq_true c_35 | exact decide_eq_false c_35 | exact decide_eq_false (not_not_intro c_35)) (by omega)]; rfl) (by omega) (nI (i + 1)) (rfl) x6 (by rw [ex6, exc13]; simp only [xs_at, xs_xs]; rfl) _ _ hI hS ls (lv_sub hl [1, 2, 3, 0] rfl)
  exact lp13 (_ + 1) (0) (by decide) (rfl) (Nat.lt_succ_self _) 0 (rfl) x1 (by rw [ex1]; exact (xs_20 x).symm) _ _ hI hS ls (lv_sub hl [1, 2, 3, 0] rfl)
set_option maxHeartbeats 1000000 in
theorem k_X0_wiseBehind {l : Launch} {D : va_G} {L : Nat → Nat} {A : Nat → Prop} (x : cst) (hO : wOk (x.1 0)) (hd : isN (x.1 0 1 2) 10000) (k : Nat) (v : Int32) (hk : k < 8) : Met l yX0_wiseBehind (wsW_ yX0_wiseBehind cX0_wiseBehind 6 (some .int) [((11 : Nat), (62 : Nat), (76 : Nat), (0 : Nat)), ((76 : Nat), (78 : Nat), (76 : Nat), (0 : Nat))]) ({ frames := 6, cells := 0, slots := 0, locals := 130 } : Room) (va_Pc [.ref (L 44), .int (nI k), .int v] (pI D (cfC D L x) A)) (nQ D (cfC D L (xs x 2 (x.1 0))) A (some (.int (rhI (p_wise (x.1 0) k v))))) 0 0 A := by
  refine met_W (by decide) rfl (Nat.le_of_ble_eq_true rfl) ?_
  intro p e s m below meth c ls hx hb hr hml hown hts hlocks hl hI hK hhh
  have F : CallFix p m c cX0_wiseBehind 6 s _ lw_all RX0 := ⟨hx, hb, hml, hown, hts⟩
  have hl : lv_has ls 6 [(0, .ref (L 44)), (1, .int (nI k)), (2, .int v)] := hl
  have hS : va_S A s.heap s.heap [] := va_S.rf
  refine lv_aload_n hx hb dX0_wiseBehind_0 rfl (lv_at hl 0 rfl) ?_
  refine r_get (C := RX0) (T := TX0) (N := 11) hx hb hts in_X0 hown hK hI (cf_main) rfl 5 (by decide) (hts _ q403) (fun _ h => h) rfl dX0_wiseBehind_1 ?_
  refine lv_aload_n hx hb dX0_wiseBehind_4 rfl (lv_at hl 0 rfl) ?_
  refine r_get (C := RX0) (T := TX0) (N := 11) hx hb hts in_X0 hown hK hI (cf_main) rfl 3 (by decide) (hts _ q401) (fun _ h => h) rfl dX0_wiseBehind_5 ?_
  refine c_m (k_V (As := [.ref (L (11 * 0))]) (rest := []) F (k_X4_become x 2 (by decide) 0 (by decide) (by decide)) (cwV 1 hts (lw_V q776 q777 q778 q98 q779) rfl rfl rfl (by decide +kernel) ⟨Nat.le_of_ble_eq_true rfl, Nat.le_of_ble_eq_true rfl⟩) hI hK (hw.recv hI hK (cf_W (w := 2) (by decide)) rfl) rfl hl.1 rfl (Nat.le_of_ble_eq_true rfl) dX0_wiseBehind_8 ⟨Nat.le_of_ble_eq_true rfl, Nat.le_of_ble_eq_true rfl⟩) hS (fun H1 locs1 hI hS => ?_)
  obtain ⟨x1, ex1⟩ : ∃ z, z = xs x 2 (x.1 0) := ⟨_, rfl⟩
  rw [← ex1] at hI
  have hO_x1 : wOk (x1.1 0) := by rw [ex1, xs_ne (by decide)]; exact hO
  have hd_x1 : isN (x1.1 0 1 2) 10000 := by rw [ex1, xs_ne (by decide)]; exact hd
  refine lv_iconst (v := 0) hx hb dX0_wiseBehind_11 (by decide) ?_
  refine lv_istore_n (lv' := [(3, .int 0), (0, .ref (L 44)), (1, .int (nI k)), (2, .int v)]) hx hb dX0_wiseBehind_12 rfl hl (by decide) rfl (fun ls hl => ?_)
  have lp13 : ∀ (fuel : Nat) (i : Nat), (i ≤ 201) → (fstB (p_wise (x.1 0) k v) 201 0 = fstB (p_wise (x.1 0) k v) (201 - i) i) → 201 - i < fuel → ∀ (v3 : Int32), v3 = nI i → ∀ (xc13 : cst), xc13 = xs (xs x 2 (x.1 0)) 0 (psn (x.1 0) i) → ∀ (H : Heap) (locs : List Loc), hw D (cfC D L xc13) A H → va_S A s.heap H locs → ∀ (ls : Array Slot), lv_has ls 6 [(0, .ref (L 44)), (1, .int (nI k)), (2, .int v), (3, .int v3)] → W p l e ({ frames := 6, cells := 0, slots := 0, locals := 130 } : Room) s m ([.ref (L 44), .int (nI k), .int v] : List Value).toArray below meth c H locs 0 0 (MQ below (nQ D (cfC D L (xs x 2 (x.1 0))) A (some (.int (rhI (p_wise (x.1 0) k v))))) ([.ref (L 44), .int (nI k), .int v] : List Value).toArray s 0 0 A) (F0 m 13 ls []) := by
    intro fuel
    induction fuel with
    | zero => intro i hi hp hf; exact absurd hf (Nat.not_lt_zero _)
    | succ fuel ih13 =>
      intro i hi hp hf13 v3 e3  xc13 exc13 H locs hI hS ls hl
      subst e3
      have hO_xc13 : wOk (xc13.1 0) := by rw [exc13, xs_at]; exact wOk_psn hO hd i (by omega)
      have hf13 : xc13.1 0 = psn (x.1 0) i := by rw [exc13, xs_at]
      refine lv_iload_n hx hb dX0_wiseBehind_13 rfl (lv_at hl 3 rfl) ?_
      refine lv_sipush (v := 200) hx hb dX0_wiseBehind_14 (by decide) ?_
      refine lv_icmp_gt (tgt := 48) hx hb dX0_wiseBehind_17 (by decide) (fun c_17 => ?_) (fun c_17 => ?_)
      · skip
        have c_17 : 200 < i := (nlt (a := 200) (b := i) (rfl) (rfl) (by omega) (by omega)).mp c_17
        refine lv_iload_n hx hb dX0_wiseBehind_48 rfl (lv_at hl 3 rfl) ?_
        refine lv_sipush (v := 200) hx hb dX0_wiseBehind_49 (by decide) ?_
        refine lv_icmp_gt (tgt := 59) hx hb dX0_wiseBehind_52 (by decide) (fun c_52 => ?_) (fun c_52 => ?_)
        · skip
          have c_52 : 200 < i := (nlt (a := 200) (b := i) (rfl) (rfl) (by omega) (by omega)).mp c_52
          refine lv_iconst (v := (-1)) hx hb dX0_wiseBehind_59 (by decide) ?_
          refine lv_istore (lv' := [(4, .int (-1)), (0, .ref (L 44)), (1, .int (nI k)), (2, .int v), (3, .int (nI i))]) hx hb dX0_wiseBehind_60 hl (by decide) rfl (fun ls hl => ?_)
          refine lv_aload_n hx hb dX0_wiseBehind_62 rfl (lv_at hl 1 rfl) ?_
          refine r_get (C := RX0) (T := TX0) (N := 11) hx hb hts in_X0 hown hK hI (cf_main) rfl 3 (by decide) (hts _ q401) (fun _ h => h) rfl dX0_wiseBehind_63 ?_
          refine lv_aload_n hx hb dX0_wiseBehind_66 rfl (lv_at hl 1 rfl) ?_
          refine r_get (C := RX0) (T := TX0) (N := 11) hx hb hts in_X0 hown hK hI (cf_main) rfl 5 (by decide) (hts _ q403) (fun _ h => h) rfl dX0_wiseBehind_67 ?_
          refine c_m (k_V (As := [.ref (L (11 * 2))]) (rest := []) F (k_X4_become xc13 0 (by decide) 2 (by decide) (by decide)) (cwV 1 hts (lw_V q776 q777 q778 q98 q779) rfl rfl rfl (by decide +kernel) ⟨Nat.le_of_ble_eq_true rfl, Nat.le_of_ble_eq_true rfl⟩) hI hK (hw.recv hI hK (cf_W (w := 0) (by decide)) rfl) rfl hl.1 rfl (Nat.le_of_ble_eq_true rfl) dX0_wiseBehind_70 ⟨Nat.le_of_ble_eq_true rfl, Nat.le_of_ble_eq_true rfl⟩) hS (fun H1 locs1 hI hS => ?_)
          obtain ⟨x2, ex2⟩ : ∃ z, z = xs xc13 0 (xc13.1 2) := ⟨_, rfl⟩
          rw [← ex2] at hI
          refine lv_iload hx hb dX0_wiseBehind_73 (lv_at hl 0 rfl) ?_
          exact W.iret hx hb hr (fun t ht _ => ⟨rI (by first | (exfalso; omega) | (rw [rhI, hp, show i = 201 by omega]; rfl) | (rw [hf13] at c_35; rw [rhI, hp, fstB_stop (by first | exact decide_eq_true c_35 | exact decide_eq_false c_35 | exact decide_eq_false (not_not_intro c_35)) (by omega), if_pos (by omega)]; done)), by rw [ht]; exact hw_eq hI (congrArg (cfC D L) (by rw [ex2, exc13]; simp only [xs_at, xs_c0, xs_xs]; exact xs_20 x)), hS.F ht⟩) hS.2.2 dX0_wiseBehind_75
        · skip
          have c_52 : ¬ 200 < i := fun z => c_52 ((nlt (a := 200) (b := i) (rfl) (rfl) (by omega) (by omega)).mpr z)
          refine lv_iload_n hx hb dX0_wiseBehind_55 rfl (lv_at hl 3 rfl) ?_
          refine lv_goto (tgt := 60) hx hb dX0_wiseBehind_56 (by decide) ?_
          refine lv_istore (lv' := [(4, .int (nI i)), (0, .ref (L 44)), (1, .int (nI k)), (2, .int v), (3, .int (nI i))]) hx hb dX0_wiseBehind_60 hl (by decide) rfl (fun ls hl => ?_)
          refine lv_aload_n hx hb dX0_wiseBehind_62 rfl (lv_at hl 1 rfl) ?_
          refine r_get (C := RX0) (T := TX0) (N := 11) hx hb hts in_X0 hown hK hI (cf_main) rfl 3 (by decide) (hts _ q401) (fun _ h => h) rfl dX0_wiseBehind_63 ?_
          refine lv_aload_n hx hb dX0_wiseBehind_66 rfl (lv_at hl 1 rfl) ?_
          refine r_get (C := RX0) (T := TX0) (N := 11) hx hb hts in_X0 hown hK hI (cf_main) rfl 5 (by decide) (hts _ q403) (fun _ h => h) rfl dX0_wiseBehind_67 ?_
          refine c_m (k_V (As := [.ref (L (11 * 2))]) (rest := []) F (k_X4_become xc13 0 (by decide) 2 (by decide) (by decide)) (cwV 1 hts (lw_V q776 q777 q778 q98 q779) rfl rfl rfl (by decide +kernel) ⟨Nat.le_of_ble_eq_true rfl, Nat.le_of_ble_eq_true rfl⟩) hI hK (hw.recv hI hK (cf_W (w := 0) (by decide)) rfl) rfl hl.1 rfl (Nat.le_of_ble_eq_true rfl) dX0_wiseBehind_70 ⟨Nat.le_of_ble_eq_true rfl, Nat.le_of_ble_eq_true rfl⟩) hS (fun H1 locs1 hI hS => ?_)
          obtain ⟨x3, ex3⟩ : ∃ z, z = xs xc13 0 (xc13.1 2) := ⟨_, rfl⟩
          rw [← ex3] at hI
          refine lv_iload hx hb dX0_wiseBehind_73 (lv_at hl 0 rfl) ?_
          exact W.iret hx hb hr (fun t ht _ => ⟨rI (by first | (exfalso; omega) | (rw [rhI, hp, show i = 201 by omega]; rfl) | (rw [hf13] at c_35; rw [rhI, hp, fstB_stop (by first | exact decide_eq_true c_35 | exact decide_eq_false c_35 | exact decide_eq_false (not_not_intro c_35)) (by omega), if_pos (by omega)]; done)), by rw [ht]; exact hw_eq hI (congrArg (cfC D L) (by rw [ex3, exc13]; simp only [xs_at, xs_c0, xs_xs]; exact xs_20 x)), hS.F ht⟩) hS.2.2 dX0_wiseBehind_75
      · skip
        have c_17 : ¬ 200 < i := fun z => c_17 ((nlt (a := 200) (b := i) (rfl) (rfl) (by omega) (by omega)).mpr z)
        refine lv_aload_n hx hb dX0_wiseBehind_20 rfl (lv_at hl 0 rfl) ?_
        refine r_get (C := RX0) (T := TX0) (N := 11) hx hb hts in_X0 hown hK hI (cf_main) rfl 3 (by decide) (hts _ q401) (fun _ h => h) rfl dX0_wiseBehind_21 ?_
        refine r_getN (C := RX4) (T := TX4) (N := 7) hx hb hts in_X4 hown hK hI (cf_W (w := 0) (by decide)) rfl 2 (by decide) (nf_7 hK) (fun _ h => h) rfl dX0_wiseBehind_24 ?_
        refine lv_iconst (v := 5) hx hb dX0_wiseBehind_27 (by decide) ?_
        refine n_aaldI (f := fun r => L (11 * 0 + 3 + r)) (k := 5) hx hb hK hI (cf_glove (w := 0) (by decide)) (rfl) (by decide) (by decide) dX0_wiseBehind_28 ?_
        refine lv_iload_n hx hb dX0_wiseBehind_29 rfl (lv_at hl 1 rfl) ?_
        refine n_iald (k := k) hx hb hK hI (cf_row (w := 0) (r := 5) (by decide) (by decide)) (rfl) (by omega) (by decide) dX0_wiseBehind_30 ?_
        refine c_r (k_S (As := [.int (xc13.1 0 (2 + 5) k)]) (rest := []) F (k_X0_ones (xc13.1 0 (2 + 5) k)) (va_cwS 1 hts (lw_S q809 q734 q91 q735) rfl rfl rfl (by decide +kernel) ⟨Nat.le_of_ble_eq_true rfl, Nat.le_of_ble_eq_true rfl⟩) rfl hl.1 rfl (Nat.le_of_ble_eq_true rfl) dX0_wiseBehind_31 ⟨Nat.le_of_ble_eq_true rfl, Nat.le_of_ble_eq_true rfl⟩) ?_
        refine lv_iload_n hx hb dX0_wiseBehind_34 rfl (lv_at hl 2 rfl) ?_
        refine lv_icmp_ge (tgt := 48) hx hb dX0_wiseBehind_35 (by decide) (fun c_35 => ?_) (fun c_35 => ?_)
        · skip
          have c_35 := Int32.not_lt.mpr c_35
          refine lv_iload_n hx hb dX0_wiseBehind_48 rfl (lv_at hl 3 rfl) ?_
          refine lv_sipush (v := 200) hx hb dX0_wiseBehind_49 (by decide) ?_
          refine lv_icmp_gt (tgt := 59) hx hb dX0_wiseBehind_52 (by decide) (fun c_52 => ?_) (fun c_52 => ?_)
          · skip
            have c_52 : 200 < i := (nlt (a := 200) (b := i) (rfl) (rfl) (by omega) (by omega)).mp c_52
            refine lv_iconst (v := (-1)) hx hb dX0_wiseBehind_59 (by decide) ?_
            refine lv_istore (lv' := [(4, .int (-1)), (0, .ref (L 44)), (1, .int (nI k)), (2, .int v), (3, .int (nI i))]) hx hb dX0_wiseBehind_60 hl (by decide) rfl (fun ls hl => ?_)
            refine lv_aload_n hx hb dX0_wiseBehind_62 rfl (lv_at hl 1 rfl) ?_
            refine r_get (C := RX0) (T := TX0) (N := 11) hx hb hts in_X0 hown hK hI (cf_main) rfl 3 (by decide) (hts _ q401) (fun _ h => h) rfl dX0_wiseBehind_63 ?_
            refine lv_aload_n hx hb dX0_wiseBehind_66 rfl (lv_at hl 1 rfl) ?_
            refine r_get (C := RX0) (T := TX0) (N := 11) hx hb hts in_X0 hown hK hI (cf_main) rfl 5 (by decide) (hts _ q403) (fun _ h => h) rfl dX0_wiseBehind_67 ?_
            refine c_m (k_V (As := [.ref (L (11 * 2))]) (rest := []) F (k_X4_become xc13 0 (by decide) 2 (by decide) (by decide)) (cwV 1 hts (lw_V q776 q777 q778 q98 q779) rfl rfl rfl (by decide +kernel) ⟨Nat.le_of_ble_eq_true rfl, Nat.le_of_ble_eq_true rfl⟩) hI hK (hw.recv hI hK (cf_W (w := 0) (by decide)) rfl) rfl hl.1 rfl (Nat.le_of_ble_eq_true rfl) dX0_wiseBehind_70 ⟨Nat.le_of_ble_eq_true rfl, Nat.le_of_ble_eq_true rfl⟩) hS (fun H1 locs1 hI hS => ?_)
            obtain ⟨x4, ex4⟩ : ∃ z, z = xs xc13 0 (xc13.1 2) := ⟨_, rfl⟩
            rw [← ex4] at hI
            refine lv_iload hx hb dX0_wiseBehind_73 (lv_at hl 0 rfl) ?_
            exact W.iret hx hb hr (fun t ht _ => ⟨rI (by first | (exfalso; omega) | (rw [rhI, hp, show i = 201 by omega]; rfl) | (rw [hf13] at c_35; rw [rhI, hp, fstB_stop (by first | exact decide_eq_true c_35 | exact decide_eq_false c_35 | exact decide_eq_false (not_not_intro c_35)) (by omega), if_pos (by omega)]; done)), by rw [ht]; exact hw_eq hI (congrArg (cfC D L) (by rw [ex4, exc13]; simp only [xs_at, xs_c0, xs_xs]; exact xs_20 x)), hS.F ht⟩) hS.2.2 dX0_wiseBehind_75
          · skip
            have c_52 : ¬ 200 < i := fun z => c_52 ((nlt (a := 200) (b := i) (rfl) (rfl) (by omega) (by omega)).mpr z)
            refine lv_iload_n hx hb dX0_wiseBehind_55 rfl (lv_at hl 3 rfl) ?_
            refine lv_goto (tgt := 60) hx hb dX0_wiseBehind_56 (by decide) ?_
            refine lv_istore (lv' := [(4, .int (nI i)), (0, .ref (L 44)), (1, .int (nI k)), (2, .int v), (3, .int (nI i))]) hx hb dX0_wiseBehind_60 hl (by decide) rfl (fun ls hl => ?_)
            refine lv_aload_n hx hb dX0_wiseBehind_62 rfl (lv_at hl 1 rfl) ?_
            refine r_get (C := RX0) (T := TX0) (N := 11) hx hb hts in_X0 hown hK hI (cf_main) rfl 3 (by decide) (hts _ q401) (fun _ h => h) rfl dX0_wiseBehind_63 ?_
            refine lv_aload_n hx hb dX0_wiseBehind_66 rfl (lv_at hl 1 rfl) ?_
            refine r_get (C := RX0) (T := TX0) (N := 11) hx hb hts in_X0 hown hK hI (cf_main) rfl 5 (by decide) (hts _ q403) (fun _ h => h) rfl dX0_wiseBehind_67 ?_
            refine c_m (k_V (As := [.ref (L (11 * 2))]) (rest := []) F (k_X4_become xc13 0 (by decide) 2 (by decide) (by decide)) (cwV 1 hts (lw_V q776 q777 q778 q98 q779) rfl rfl rfl (by decide +kernel) ⟨Nat.le_of_ble_eq_true rfl, Nat.le_of_ble_eq_true rfl⟩) hI hK (hw.recv hI hK (cf_W (w := 0) (by decide)) rfl) rfl hl.1 rfl (Nat.le_of_ble_eq_true rfl) dX0_wiseBehind_70 ⟨Nat.le_of_ble_eq_true rfl, Nat.le_of_ble_eq_true rfl⟩) hS (fun H1 locs1 hI hS => ?_)
            obtain ⟨x5, ex5⟩ : ∃ z, z = xs xc13 0 (xc13.1 2) := ⟨_, rfl⟩
            rw [← ex5] at hI
            refine lv_iload hx hb dX0_wiseBehind_73 (lv_at hl 0 rfl) ?_
            exact W.iret hx hb hr (fun t ht _ => ⟨rI (by first | (exfalso; omega) | (rw [rhI, hp, show i = 201 by omega]; rfl) | (rw [hf13] at c_35; rw [rhI, hp, fstB_stop (by first | exact decide_eq_true c_35 | exact decide_eq_false c_35 | exact decide_eq_false (not_not_intro c_35)) (by omega), if_pos (by omega)]; done)), by rw [ht]; exact hw_eq hI (congrArg (cfC D L) (by rw [ex5, exc13]; simp only [xs_at, xs_c0, xs_xs]; exact xs_20 x)), hS.F ht⟩) hS.2.2 dX0_wiseBehind_75
        · skip
          have c_35 := Int32.not_le.mp c_35
          refine lv_aload_n hx hb dX0_wiseBehind_38 rfl (lv_at hl 0 rfl) ?_
          refine c_m (k_V (As := []) (rest := []) F (k_X0_passes_2 xc13 (hO_xc13)) (cwV 0 hts (lw_V q713 q715 qs9 q91 q716) rfl rfl rfl (by decide +kernel) ⟨Nat.le_of_ble_eq_true rfl, Nat.le_of_ble_eq_true rfl⟩) hI hK (hw.recv hI hK (cf_main) rfl) rfl hl.1 rfl (Nat.le_of_ble_eq_true rfl) dX0_wiseBehind_39 ⟨Nat.le_of_ble_eq_true rfl, Nat.le_of_ble_eq_true rfl⟩) hS (fun H1 locs1 hI hS => ?_)
          obtain ⟨x6, ex6⟩ : ∃ z, z = xs xc13 0 (psw (xc13.1 0)) := ⟨_, rfl⟩
          rw [← ex6] at hI
          refine lv_iinc (v := (nI (i + 1))) (lv' := [(3, .int (nI (i + 1))), (0, .ref (L 44)), (1, .int (nI k)), (2, .int v)]) hx hb dX0_wiseBehind_42 hl (k := 3) rfl (nI_1 _) (by decide) rfl (fun ls hl => ?_)
          refine lv_goto (tgt := 13) hx hb dX0_wiseBehind_45 (by decide) ?_
          exact ih13 (i + 1) (by omega) (by rw [hp, fstB_go (by rw [hf13] at c_35; first | exact decide_eq_true c_35 | exact decide_eq_false c_35 | exact decide_eq_false (not_not_intro c_35)) (by omega)]; rfl) (by omega) (nI (i + 1)) (rfl) x6 (by rw [ex6, exc13]; simp only [xs_at, xs_xs]; rfl) _ _ hI hS ls (lv_sub hl [1, 2, 3, 0] rfl)
  exact lp13 (_ + 1) (0) (by decide) (rfl) (Nat.lt_succ_self _) 0 (rfl) x1 (by rw [ex1]; exact (xs_20 x).symm) _ _ hI hS ls (lv_sub hl [1, 2, 3, 0] rfl)
set_option maxHeartbeats 1000000 in
theorem k_X0_outBehind {l : Launch} {D : va_G} {L : Nat → Nat} {A : Nat → Prop} (x : cst) (hO : wOk (x.1 0)) (hd : isN (x.1 0 1 2) 10000) (t : Int32) : Met l yX0_outBehind (wsW_ yX0_outBehind cX0_outBehind 5 (some .int) [((11 : Nat), (64 : Nat), (77 : Nat), (0 : Nat)), ((77 : Nat), (79 : Nat), (77 : Nat), (0 : Nat))]) ({ frames := 6, cells := 0, slots := 0, locals := 130 } : Room) (va_Pc [.ref (L 44), .int t] (pI D (cfC D L x) A)) (nQ D (cfC D L (xs x 2 (x.1 0))) A (some (.int (rhI (p_out (x.1 0) t))))) 0 0 A := by
  refine met_W (by decide) rfl (Nat.le_of_ble_eq_true rfl) ?_
  intro p e s m below meth c ls hx hb hr hml hown hts hlocks hl hI hK hhh
  have F : CallFix p m c cX0_outBehind 5 s _ lw_all RX0 := ⟨hx, hb, hml, hown, hts⟩
  have hl : lv_has ls 5 [(0, .ref (L 44)), (1, .int t)] := hl
  have hS : va_S A s.heap s.heap [] := va_S.rf
  refine lv_aload_n hx hb dX0_outBehind_0 rfl (lv_at hl 0 rfl) ?_
  refine r_get (C := RX0) (T := TX0) (N := 11) hx hb hts in_X0 hown hK hI (cf_main) rfl 5 (by decide) (hts _ q403) (fun _ h => h) rfl dX0_outBehind_1 ?_
  refine lv_aload_n hx hb dX0_outBehind_4 rfl (lv_at hl 0 rfl) ?_
  refine r_get (C := RX0) (T := TX0) (N := 11) hx hb hts in_X0 hown hK hI (cf_main) rfl 3 (by decide) (hts _ q401) (fun _ h => h) rfl dX0_outBehind_5 ?_
  refine c_m (k_V (As := [.ref (L (11 * 0))]) (rest := []) F (k_X4_become x 2 (by decide) 0 (by decide) (by decide)) (cwV 1 hts (lw_V q776 q777 q778 q98 q779) rfl rfl rfl (by decide +kernel) ⟨Nat.le_of_ble_eq_true rfl, Nat.le_of_ble_eq_true rfl⟩) hI hK (hw.recv hI hK (cf_W (w := 2) (by decide)) rfl) rfl hl.1 rfl (Nat.le_of_ble_eq_true rfl) dX0_outBehind_8 ⟨Nat.le_of_ble_eq_true rfl, Nat.le_of_ble_eq_true rfl⟩) hS (fun H1 locs1 hI hS => ?_)
  obtain ⟨x1, ex1⟩ : ∃ z, z = xs x 2 (x.1 0) := ⟨_, rfl⟩
  rw [← ex1] at hI
  have hO_x1 : wOk (x1.1 0) := by rw [ex1, xs_ne (by decide)]; exact hO
  have hd_x1 : isN (x1.1 0 1 2) 10000 := by rw [ex1, xs_ne (by decide)]; exact hd
  refine lv_iconst (v := 0) hx hb dX0_outBehind_11 (by decide) ?_
  refine lv_istore_n (lv' := [(2, .int 0), (0, .ref (L 44)), (1, .int t)]) hx hb dX0_outBehind_12 rfl hl (by decide) rfl (fun ls hl => ?_)
  have lp13 : ∀ (fuel : Nat) (i : Nat), (i ≤ 201) → (fstB (p_out (x.1 0) t) 201 0 = fstB (p_out (x.1 0) t) (201 - i) i) → 201 - i < fuel → ∀ (v2 : Int32), v2 = nI i → ∀ (xc13 : cst), xc13 = xs (xs x 2 (x.1 0)) 0 (psn (x.1 0) i) → ∀ (H : Heap) (locs : List Loc), hw D (cfC D L xc13) A H → va_S A s.heap H locs → ∀ (ls : Array Slot), lv_has ls 5 [(0, .ref (L 44)), (1, .int t), (2, .int v2)] → W p l e ({ frames := 6, cells := 0, slots := 0, locals := 130 } : Room) s m ([.ref (L 44), .int t] : List Value).toArray below meth c H locs 0 0 (MQ below (nQ D (cfC D L (xs x 2 (x.1 0))) A (some (.int (rhI (p_out (x.1 0) t))))) ([.ref (L 44), .int t] : List Value).toArray s 0 0 A) (F0 m 13 ls []) := by
    intro fuel
    induction fuel with
    | zero => intro i hi hp hf; exact absurd hf (Nat.not_lt_zero _)
    | succ fuel ih13 =>
      intro i hi hp hf13 v2 e2  xc13 exc13 H locs hI hS ls hl
      subst e2
      have hO_xc13 : wOk (xc13.1 0) := by rw [exc13, xs_at]; exact wOk_psn hO hd i (by omega)
      have hf13 : xc13.1 0 = psn (x.1 0) i := by rw [exc13, xs_at]
      refine lv_iload_n hx hb dX0_outBehind_13 rfl (lv_at hl 2 rfl) ?_
      refine lv_sipush (v := 200) hx hb dX0_outBehind_14 (by decide) ?_
      refine lv_icmp_gt (tgt := 51) hx hb dX0_outBehind_17 (by decide) (fun c_17 => ?_) (fun c_17 => ?_)
      · skip
        have c_17 : 200 < i := (nlt (a := 200) (b := i) (rfl) (rfl) (by omega) (by omega)).mp c_17
        refine lv_iload_n hx hb dX0_outBehind_51 rfl (lv_at hl 2 rfl) ?_
        refine lv_sipush (v := 200) hx hb dX0_outBehind_52 (by decide) ?_
        refine lv_icmp_gt (tgt := 62) hx hb dX0_outBehind_55 (by decide) (fun c_55 => ?_) (fun c_55 => ?_)
        · skip
          have c_55 : 200 < i := (nlt (a := 200) (b := i) (rfl) (rfl) (by omega) (by omega)).mp c_55
          refine lv_iconst (v := (-1)) hx hb dX0_outBehind_62 (by decide) ?_
          refine lv_istore_n (lv' := [(3, .int (-1)), (0, .ref (L 44)), (1, .int t), (2, .int (nI i))]) hx hb dX0_outBehind_63 rfl hl (by decide) rfl (fun ls hl => ?_)
          refine lv_aload_n hx hb dX0_outBehind_64 rfl (lv_at hl 1 rfl) ?_
          refine r_get (C := RX0) (T := TX0) (N := 11) hx hb hts in_X0 hown hK hI (cf_main) rfl 3 (by decide) (hts _ q401) (fun _ h => h) rfl dX0_outBehind_65 ?_
          refine lv_aload_n hx hb dX0_outBehind_68 rfl (lv_at hl 1 rfl) ?_
          refine r_get (C := RX0) (T := TX0) (N := 11) hx hb hts in_X0 hown hK hI (cf_main) rfl 5 (by decide) (hts _ q403) (fun _ h => h) rfl dX0_outBehind_69 ?_
          refine c_m (k_V (As := [.ref (L (11 * 2))]) (rest := []) F (k_X4_become xc13 0 (by decide) 2 (by decide) (by decide)) (cwV 1 hts (lw_V q776 q777 q778 q98 q779) rfl rfl rfl (by decide +kernel) ⟨Nat.le_of_ble_eq_true rfl, Nat.le_of_ble_eq_true rfl⟩) hI hK (hw.recv hI hK (cf_W (w := 0) (by decide)) rfl) rfl hl.1 rfl (Nat.le_of_ble_eq_true rfl) dX0_outBehind_72 ⟨Nat.le_of_ble_eq_true rfl, Nat.le_of_ble_eq_true rfl⟩) hS (fun H1 locs1 hI hS => ?_)
          obtain ⟨x2, ex2⟩ : ∃ z, z = xs xc13 0 (xc13.1 2) := ⟨_, rfl⟩
          rw [← ex2] at hI
          refine lv_iload_n hx hb dX0_outBehind_75 rfl (lv_at hl 0 rfl) ?_
          exact W.iret hx hb hr (fun t ht _ => ⟨rI (by first | (exfalso; omega) | (rw [rhI, hp, show i = 201 by omega]; rfl) | (rw [hf13] at c_38; rw [rhI, hp, fstB_stop (by first | exact decide_eq_true c_38 | exact decide_eq_false c_38 | exact decide_eq_false (not_not_intro c_38)) (by omega), if_pos (by omega)]; done)), by rw [ht]; exact hw_eq hI (congrArg (cfC D L) (by rw [ex2, exc13]; simp only [xs_at, xs_c0, xs_xs]; exact xs_20 x)), hS.F ht⟩) hS.2.2 dX0_outBehind_76
        · skip
          have c_55 : ¬ 200 < i := fun z => c_55 ((nlt (a := 200) (b := i) (rfl) (rfl) (by omega) (by omega)).mpr z)
          refine lv_iload_n hx hb dX0_outBehind_58 rfl (lv_at hl 2 rfl) ?_
          refine lv_goto (tgt := 63) hx hb dX0_outBehind_59 (by decide) ?_
          refine lv_istore_n (lv' := [(3, .int (nI i)), (0, .ref (L 44)), (1, .int t), (2, .int (nI i))]) hx hb dX0_outBehind_63 rfl hl (by decide) rfl (fun ls hl => ?_)
          refine lv_aload_n hx hb dX0_outBehind_64 rfl (lv_at hl 1 rfl) ?_
          refine r_get (C := RX0) (T := TX0) (N := 11) hx hb hts in_X0 hown hK hI (cf_main) rfl 3 (by decide) (hts _ q401) (fun _ h => h) rfl dX0_outBehind_65 ?_
          refine lv_aload_n hx hb dX0_outBehind_68 rfl (lv_at hl 1 rfl) ?_
          refine r_get (C := RX0) (T := TX0) (N := 11) hx hb hts in_X0 hown hK hI (cf_main) rfl 5 (by decide) (hts _ q403) (fun _ h => h) rfl dX0_outBehind_69 ?_
          refine c_m (k_V (As := [.ref (L (11 * 2))]) (rest := []) F (k_X4_become xc13 0 (by decide) 2 (by decide) (by decide)) (cwV 1 hts (lw_V q776 q777 q778 q98 q779) rfl rfl rfl (by decide +kernel) ⟨Nat.le_of_ble_eq_true rfl, Nat.le_of_ble_eq_true rfl⟩) hI hK (hw.recv hI hK (cf_W (w := 0) (by decide)) rfl) rfl hl.1 rfl (Nat.le_of_ble_eq_true rfl) dX0_outBehind_72 ⟨Nat.le_of_ble_eq_true rfl, Nat.le_of_ble_eq_true rfl⟩) hS (fun H1 locs1 hI hS => ?_)
          obtain ⟨x3, ex3⟩ : ∃ z, z = xs xc13 0 (xc13.1 2) := ⟨_, rfl⟩
          rw [← ex3] at hI
          refine lv_iload_n hx hb dX0_outBehind_75 rfl (lv_at hl 0 rfl) ?_
          exact W.iret hx hb hr (fun t ht _ => ⟨rI (by first | (exfalso; omega) | (rw [rhI, hp, show i = 201 by omega]; rfl) | (rw [hf13] at c_38; rw [rhI, hp, fstB_stop (by first | exact decide_eq_true c_38 | exact decide_eq_false c_38 | exact decide_eq_false (not_not_intro c_38)) (by omega), if_pos (by omega)]; done)), by rw [ht]; exact hw_eq hI (congrArg (cfC D L) (by rw [ex3, exc13]; simp only [xs_at, xs_c0, xs_xs]; exact xs_20 x)), hS.F ht⟩) hS.2.2 dX0_outBehind_76
      · skip
        have c_17 : ¬ 200 < i := fun z => c_17 ((nlt (a := 200) (b := i) (rfl) (rfl) (by omega) (by omega)).mpr z)
        refine lv_iload_n hx hb dX0_outBehind_20 rfl (lv_at hl 1 rfl) ?_
        refine lv_aload_n hx hb dX0_outBehind_21 rfl (lv_at hl 0 rfl) ?_
        refine r_get (C := RX0) (T := TX0) (N := 11) hx hb hts in_X0 hown hK hI (cf_main) rfl 3 (by decide) (hts _ q401) (fun _ h => h) rfl dX0_outBehind_22 ?_
        refine lv_aload_n hx hb dX0_outBehind_25 rfl (lv_at hl 0 rfl) ?_
        refine r_get (C := RX0) (T := TX0) (N := 11) hx hb hts in_X0 hown hK hI (cf_main) rfl 3 (by decide) (hts _ q401) (fun _ h => h) rfl dX0_outBehind_26 ?_
        refine c_r (k_V (As := []) (rest := [.ref (L (11 * 0)), .int t]) F (k_X4_all xc13 0 (by decide) (hO_xc13)) (cwV 0 hts (lw_V q747 q748 q749 q98 q750) rfl rfl rfl (by decide +kernel) ⟨Nat.le_of_ble_eq_true rfl, Nat.le_of_ble_eq_true rfl⟩) hI hK (hw.recv hI hK (cf_W (w := 0) (by decide)) rfl) rfl hl.1 rfl (Nat.le_of_ble_eq_true rfl) dX0_outBehind_29 ⟨Nat.le_of_ble_eq_true rfl, Nat.le_of_ble_eq_true rfl⟩) ?_
        refine c_r (k_V (As := [.int (allI (xc13.1 0))]) (rest := [.int t]) F (k_X4_knownBoth xc13 0 (by decide) (hO_xc13) (allI (xc13.1 0))) (cwV 1 hts (lw_V q755 q756 q757 q98 q758) rfl rfl rfl (by decide +kernel) ⟨Nat.le_of_ble_eq_true rfl, Nat.le_of_ble_eq_true rfl⟩) hI hK (hw.recv hI hK (cf_W (w := 0) (by decide)) rfl) rfl hl.1 rfl (Nat.le_of_ble_eq_true rfl) dX0_outBehind_32 ⟨Nat.le_of_ble_eq_true rfl, Nat.le_of_ble_eq_true rfl⟩) ?_
        refine lv_iconst (v := (-1)) hx hb dX0_outBehind_35 (by decide) ?_
        refine lv_ixor hx hb dX0_outBehind_36 ?_
        refine lv_iand hx hb dX0_outBehind_37 ?_
        refine lv_if_eq (tgt := 51) hx hb dX0_outBehind_38 (by decide) (fun c_38 => ?_) (fun c_38 => ?_)
        · skip
          refine lv_iload_n hx hb dX0_outBehind_51 rfl (lv_at hl 2 rfl) ?_
          refine lv_sipush (v := 200) hx hb dX0_outBehind_52 (by decide) ?_
          refine lv_icmp_gt (tgt := 62) hx hb dX0_outBehind_55 (by decide) (fun c_55 => ?_) (fun c_55 => ?_)
          · skip
            have c_55 : 200 < i := (nlt (a := 200) (b := i) (rfl) (rfl) (by omega) (by omega)).mp c_55
            refine lv_iconst (v := (-1)) hx hb dX0_outBehind_62 (by decide) ?_
            refine lv_istore_n (lv' := [(3, .int (-1)), (0, .ref (L 44)), (1, .int t), (2, .int (nI i))]) hx hb dX0_outBehind_63 rfl hl (by decide) rfl (fun ls hl => ?_)
            refine lv_aload_n hx hb dX0_outBehind_64 rfl (lv_at hl 1 rfl) ?_
            refine r_get (C := RX0) (T := TX0) (N := 11) hx hb hts in_X0 hown hK hI (cf_main) rfl 3 (by decide) (hts _ q401) (fun _ h => h) rfl dX0_outBehind_65 ?_
            refine lv_aload_n hx hb dX0_outBehind_68 rfl (lv_at hl 1 rfl) ?_
            refine r_get (C := RX0) (T := TX0) (N := 11) hx hb hts in_X0 hown hK hI (cf_main) rfl 5 (by decide) (hts _ q403) (fun _ h => h) rfl dX0_outBehind_69 ?_
            refine c_m (k_V (As := [.ref (L (11 * 2))]) (rest := []) F (k_X4_become xc13 0 (by decide) 2 (by decide) (by decide)) (cwV 1 hts (lw_V q776 q777 q778 q98 q779) rfl rfl rfl (by decide +kernel) ⟨Nat.le_of_ble_eq_true rfl, Nat.le_of_ble_eq_true rfl⟩) hI hK (hw.recv hI hK (cf_W (w := 0) (by decide)) rfl) rfl hl.1 rfl (Nat.le_of_ble_eq_true rfl) dX0_outBehind_72 ⟨Nat.le_of_ble_eq_true rfl, Nat.le_of_ble_eq_true rfl⟩) hS (fun H1 locs1 hI hS => ?_)
            obtain ⟨x4, ex4⟩ : ∃ z, z = xs xc13 0 (xc13.1 2) := ⟨_, rfl⟩
            rw [← ex4] at hI
            refine lv_iload_n hx hb dX0_outBehind_75 rfl (lv_at hl 0 rfl) ?_
            exact W.iret hx hb hr (fun t ht _ => ⟨rI (by first | (exfalso; omega) | (rw [rhI, hp, show i = 201 by omega]; rfl) | (rw [hf13] at c_38; rw [rhI, hp, fstB_stop (by first | exact decide_eq_true c_38 | exact decide_eq_false c_38 | exact decide_eq_false (not_not_intro c_38)) (by omega), if_pos (by omega)]; done)), by rw [ht]; exact hw_eq hI (congrArg (cfC D L) (by rw [ex4, exc13]; simp only [xs_at, xs_c0, xs_xs]; exact xs_20 x)), hS.F ht⟩) hS.2.2 dX0_outBehind_76
          · skip
            have c_55 : ¬ 200 < i := fun z => c_55 ((nlt (a := 200) (b := i) (rfl) (rfl) (by omega) (by omega)).mpr z)
            refine lv_iload_n hx hb dX0_outBehind_58 rfl (lv_at hl 2 rfl) ?_
            refine lv_goto (tgt := 63) hx hb dX0_outBehind_59 (by decide) ?_
            refine lv_istore_n (lv' := [(3, .int (nI i)), (0, .ref (L 44)), (1, .int t), (2, .int (nI i))]) hx hb dX0_outBehind_63 rfl hl (by decide) rfl (fun ls hl => ?_)
            refine lv_aload_n hx hb dX0_outBehind_64 rfl (lv_at hl 1 rfl) ?_
            refine r_get (C := RX0) (T := TX0) (N := 11) hx hb hts in_X0 hown hK hI (cf_main) rfl 3 (by decide) (hts _ q401) (fun _ h => h) rfl dX0_outBehind_65 ?_
            refine lv_aload_n hx hb dX0_outBehind_68 rfl (lv_at hl 1 rfl) ?_
            refine r_get (C := RX0) (T := TX0) (N := 11) hx hb hts in_X0 hown hK hI (cf_main) rfl 5 (by decide) (hts _ q403) (fun _ h => h) rfl dX0_outBehind_69 ?_
            refine c_m (k_V (As := [.ref (L (11 * 2))]) (rest := []) F (k_X4_become xc13 0 (by decide) 2 (by decide) (by decide)) (cwV 1 hts (lw_V q776 q777 q778 q98 q779) rfl rfl rfl (by decide +kernel) ⟨Nat.le_of_ble_eq_true rfl, Nat.le_of_ble_eq_true rfl⟩) hI hK (hw.recv hI hK (cf_W (w := 0) (by decide)) rfl) rfl hl.1 rfl (Nat.le_of_ble_eq_true rfl) dX0_outBehind_72 ⟨Nat.le_of_ble_eq_true rfl, Nat.le_of_ble_eq_true rfl⟩) hS (fun H1 locs1 hI hS => ?_)
            obtain ⟨x5, ex5⟩ : ∃ z, z = xs xc13 0 (xc13.1 2) := ⟨_, rfl⟩
            rw [← ex5] at hI
            refine lv_iload_n hx hb dX0_outBehind_75 rfl (lv_at hl 0 rfl) ?_
            exact W.iret hx hb hr (fun t ht _ => ⟨rI (by first | (exfalso; omega) | (rw [rhI, hp, show i = 201 by omega]; rfl) | (rw [hf13] at c_38; rw [rhI, hp, fstB_stop (by first | exact decide_eq_true c_38 | exact decide_eq_false c_38 | exact decide_eq_false (not_not_intro c_38)) (by omega), if_pos (by omega)]; done)), by rw [ht]; exact hw_eq hI (congrArg (cfC D L) (by rw [ex5, exc13]; simp only [xs_at, xs_c0, xs_xs]; exact xs_20 x)), hS.F ht⟩) hS.2.2 dX0_outBehind_76
        · skip
          refine lv_aload_n hx hb dX0_outBehind_41 rfl (lv_at hl 0 rfl) ?_
          refine c_m (k_V (As := []) (rest := []) F (k_X0_passes_2 xc13 (hO_xc13)) (cwV 0 hts (lw_V q713 q715 qs9 q91 q716) rfl rfl rfl (by decide +kernel) ⟨Nat.le_of_ble_eq_true rfl, Nat.le_of_ble_eq_true rfl⟩) hI hK (hw.recv hI hK (cf_main) rfl) rfl hl.1 rfl (Nat.le_of_ble_eq_true rfl) dX0_outBehind_42 ⟨Nat.le_of_ble_eq_true rfl, Nat.le_of_ble_eq_true rfl⟩) hS (fun H1 locs1 hI hS => ?_)
          obtain ⟨x6, ex6⟩ : ∃ z, z = xs xc13 0 (psw (xc13.1 0)) := ⟨_, rfl⟩
          rw [← ex6] at hI
          refine lv_iinc (v := (nI (i + 1))) (lv' := [(2, .int (nI (i + 1))), (0, .ref (L 44)), (1, .int t)]) hx hb dX0_outBehind_45 hl (k := 2) rfl (nI_1 _) (by decide) rfl (fun ls hl => ?_)
          refine lv_goto (tgt := 13) hx hb dX0_outBehind_48 (by decide) ?_
          exact ih13 (i + 1) (by omega) (by rw [hp, fstB_go (by rw [hf13] at c_38; first | exact decide_eq_true c_38 | exact decide_eq_false c_38 | exact decide_eq_false (not_not_intro c_38)) (by omega)]; rfl) (by omega) (nI (i + 1)) (rfl) x6 (by rw [ex6, exc13]; simp only [xs_at, xs_xs]; rfl) _ _ hI hS ls (lv_sub hl [1, 2, 0] rfl)
  exact lp13 (_ + 1) (0) (by decide) (rfl) (Nat.lt_succ_self _) 0 (rfl) x1 (by rw [ex1]; exact (xs_20 x).symm) _ _ hI hS ls (lv_sub hl [1, 2, 0] rfl)
