/-! calls of inherited and overriding methods, and of the superclass's -/
theorem lw_U {own : String} {idx : Nat} {C owner : String} {x y : MethodName} {b : ByteArray} {L : Nat} {r : Option FieldType} (h1 : Cond.methodLink own idx x ∈ lw_all) (h2 : Cond.sameMethod x.cls owner x.name x.desc ∈ lw_all) (h3 : Cond.selects C x y ∈ lw_all) (h4 : Cond.instanceMethod y ∈ lw_all) (h5 : Cond.initialized y.cls ∈ lw_all) (h6 : Cond.code y b L r ∈ lw_all) : GoodIn lw_all (va_wsU own idx C owner x y (ws_ y b L r)) := by
  refine lw_app ?_ (lw_meth h6)
  intro w hw
  simp only [List.mem_cons, List.not_mem_nil, or_false] at hw
  rcases hw with e | e | e | e | e
  · rw [e]; exact h1
  · rw [e]; exact h2
  · rw [e]; exact h3
  · rw [e]; exact h4
  · rw [e]; exact h5
theorem lw_O {own : String} {idx : Nat} {C owner : String} {x y : MethodName} {b : ByteArray} {L : Nat} {r : Option FieldType} (h1 : Cond.methodLink own idx x ∈ lw_all) (h2 : Cond.sameMethod x.cls owner x.name x.desc ∈ lw_all) (h0 : Cond.instanceMethod ⟨owner, x.name, x.desc⟩ ∈ lw_all) (h3 : Cond.selects C x y ∈ lw_all) (h4 : Cond.instanceMethod y ∈ lw_all) (h5 : Cond.initialized y.cls ∈ lw_all) (h6 : Cond.code y b L r ∈ lw_all) : GoodIn lw_all (va_wsO own idx C owner x y (ws_ y b L r)) := by
  refine lw_app ?_ (lw_meth h6)
  intro w hw
  simp only [List.mem_cons, List.not_mem_nil, or_false] at hw
  rcases hw with e | e | e | e | e | e
  · rw [e]; exact h1
  · rw [e]; exact h2
  · rw [e]; exact h0
  · rw [e]; exact h3
  · rw [e]; exact h4
  · rw [e]; exact h5
theorem lw_SU {own : String} {idx : Nat} {y : MethodName} {b : ByteArray} {L : Nat} {r : Option FieldType} (h1 : Cond.methodLink own idx y ∈ lw_all) (h2 : Cond.sameMethod y.cls y.cls y.name y.desc ∈ lw_all) (h3 : Cond.superclass own y.cls ∈ lw_all) (h4 : Cond.instanceMethod y ∈ lw_all) (h5 : Cond.initialized y.cls ∈ lw_all) (h6 : Cond.code y b L r ∈ lw_all) : GoodIn lw_all (va_wsSU own idx y (ws_ y b L r)) := by
  refine lw_app ?_ (lw_meth h6)
  intro w hw
  simp only [List.mem_cons, List.not_mem_nil, or_false] at hw
  rcases hw with e | e | e | e | e
  · rw [e]; exact h1
  · rw [e]; exact h2
  · rw [e]; exact h3
  · rw [e]; exact h4
  · rw [e]; exact h5
section CALLS2
variable {p : Program} {l : Launch} {e : Env} {R : Room} {s : State} {m : MethodId} {args : Array Value} {below : List Frame} {meth : Method} {c : Code} {H H0 : Heap} {locs : List Loc} {cells slots : Nat} {Q : State → Prop}
variable {pc : Nat} {ls : Array Slot} {rest st0 : List Value} {A : Nat → Prop} {D : va_G} {cf cf' : cmap} {free : Addr → Prop}
variable {x y : MethodName} {bytes cc : ByteArray} {maxL nL n index : Nat} {ret : Option FieldType} {ws : List Cond} {rm : Room} {Qc : Array Value → State → Outcome → State → Prop} {own C owner : String} {b i ci : Nat} {As : List Value} {fs : List Value} {q : vw_C}
theorem k_U (S : CallFix p m c cc nL s args lw_all own) (hM : Met l y ws rm (va_Pc (.ref b :: As) (pI D cf A)) Qc 0 0 free) (cw : va_CU R s args own C owner index x y bytes maxL ret ws rm 0 0 n) (hI : hw D cf A H) (hK : KK D s) (hr : ∃ cellB : Cell, H[b]? = some cellB ∧ cellB.vm.isStatics = false ∧ s.vm.findClass C = some cellB.cls)
    (hn : As.length = n) (hsize : ls.size = nL) (hstack : st0 = As.reverse ++ .ref b :: rest) (hW : (rest.map fun v => v.category).sum ≤ 8) (hdg : decode cc pc = .ok (.invokevirtual index, 3)) (hf : cells ≤ R.cells ∧ slots ≤ R.slots) :
    va_Run p l e R s m args below meth c H locs cells slots 0 0 (F0 m pc ls st0) rest (Qc (Value.ref b :: As).toArray) free :=
  va_runU S hM cw ⟨pI_blind, hr, pI_pre hI hK⟩ rfl hn hsize hstack (lv_room hW) hdg hf
theorem k_SUP (hcl : clA[ci]? = some q) (S : CallFix p m c cc nL s args lw_all own) (hM : Met l y ws rm (va_Pc (.ref b :: As) (pI D cf A)) Qc 0 0 free) (cw : va_CS R s args own index y bytes maxL ret ws rm 0 0 n) (hI : hw D cf A H) (hK : KK D s) (he : cf i = some (b, .inr (ci, fs)))
    (hn : As.length = n) (hsize : ls.size = nL) (hstack : st0 = As.reverse ++ .ref b :: rest) (hW : (rest.map fun v => v.category).sum ≤ 8) (hdg : decode cc pc = .ok (.invokespecial index, 3)) (hf : cells ≤ R.cells ∧ slots ≤ R.slots) :
    va_Run p l e R s m args below meth c H locs cells slots 0 0 (F0 m pc ls st0) rest (Qc (Value.ref b :: As).toArray) free :=
  va_runSU (C := q.1) (hK.1.1 ci q hcl).2 S hM cw ⟨pI_blind, hw.recv hI hK he hcl, pI_pre hI hK⟩ rfl hn hsize hstack (lv_room hW) hdg hf
end CALLS2
theorem cf_gk {D : va_G} {L : Nat → Nat} {x : cst} {κ k : Nat} (hκ : κ < 7) (hk : k < 8) : cfC D L x (123 + (8 * κ + k)) = some (L (123 + (8 * κ + k)), .inr (6 + κ, [.int (nI k), .ref (L 44), .ref (L 44), .ref (L 44), .ref (L 44)])) := by
  rw [cf_gl (by omega), show (8 * κ + k) / 8 = κ by omega, show (8 * κ + k) % 8 = k by omega]
/-! what the kinds tell -/
def kdI : Nat → Int32
  | 0 => 0
  | 1 => 1
  | 2 => 2
  | 3 => 3
  | 4 => 4
  | 5 => 5
  | _ => 6
def mxI (a b : Int32) : Int32 := if a < b then b else a
def ks_nd (f : wd) (k : Nat) : Int32 := mxI 0 (10 - f (2 + 2) k - 2)
def ndI (f : wd) (κ k : Nat) : Int32 := match κ with
  | 0 => 10 - f (2 + 2) k
  | 1 => ks_nd f k
  | 2 => 10 - f (2 + 2) k + 3
  | 3 => mxI 0 (10 - f (2 + 2) k + 3 - 4)
  | 4 => 99
  | 5 => 0
  | _ => if whI f (f (2 + 1) k) &&& ((1 : Int32) <<< (nI k &&& 31) ^^^ (-1)) = 0 then ks_nd f k else 1
def huI (f : wd) (κ k : Nat) : Int32 := match κ with
  | 0 => 0
  | 1 => 1
  | 2 => 0
  | 3 => 1
  | 4 => 0
  | 5 => if f (2 + 4) k < 100 then 0 else 1
  | _ => 2
def styI (κ : Nat) : Int32 := match κ with
  | 0 => 7
  | 1 => 5
  | 2 => 14
  | 3 => 14
  | 4 => 0
  | 5 => 0
  | _ => 5
def kpI (κ : Nat) : Int32 := match κ with
  | 0 => 6
  | 1 => 8
  | 2 => 3
  | 3 => 3
  | 4 => 3
  | 5 => 16
  | _ => 10
def g0I (κ : Nat) (kd : Int32) : Int32 := if kd = 0 then 1 else if kd = kdI κ then 1 else 0
def unI (κ : Nat) (kd : Int32) : Int32 := match κ with
  | 0 => g0I 0 kd
  | 1 => if kd = 1 then 1 else g0I 1 kd
  | 2 => if kd = 2 then 1 else g0I 2 kd
  | 3 => if kd = 3 then 1 else if kd = 2 then 1 else g0I 3 kd
  | 4 => if kd = 3 then 1 else if kd = 2 then 1 else g0I 4 kd
  | 5 => g0I 5 kd
  | _ => if kd = 1 then 1 else g0I 6 kd
theorem g0I_01 (κ : Nat) (kd : Int32) : g0I κ kd = 0 ∨ g0I κ kd = 1 := by
  unfold g0I
  by_cases h : kd = 0
  · simp [h]
  · by_cases h2 : kd = kdI κ <;> simp [h, h2]
theorem ifg_01 (κ : Nat) (kd : Int32) : (if kd = 2 then 1 else g0I κ kd) = 0 ∨ (if kd = 2 then 1 else g0I κ kd) = 1 := by
  by_cases h : kd = 2
  · simp [h]
  · rw [if_neg h]; exact g0I_01 κ kd
theorem k_X6_kind_0 {l : Launch} {D : va_G} {L : Nat → Nat} {A : Nat → Prop} (x : cst) (k : Nat) (hk : k < 8) : Met l yX6_kind (ws_ yX6_kind cX6_kind 1 (some .int)) ({ frames := 0, cells := 0, slots := 0, locals := 0 } : Room) (va_Pc [.ref (L (123 + (8 * 0 + k)))] (pI D (cfC D L x) A)) (rQ (.int 0)) 0 0 nof := by
  refine met_I (by decide) rfl (Nat.le_of_ble_eq_true rfl) ?_
  intro p e s m below meth c ls hx hb hr hml hown hts hlocks hl hI hK
  have F : CallFix p m c cX6_kind 1 s _ lw_all RX6 := ⟨hx, hb, hml, hown, hts⟩
  have hl : lv_has ls 1 [(0, .ref (L (123 + (8 * 0 + k))))] := hl
  refine lv_iconst (v := 0) hx hb dX6_kind_0 (by decide) ?_
  exact W.iret hx hb hr (fun t ht _ => ⟨rI (rfl), ht⟩) (fun q h => by cases h) dX6_kind_1
theorem k_X6_kind_1 {l : Launch} {D : va_G} {L : Nat → Nat} {A : Nat → Prop} (x : cst) (k : Nat) (hk : k < 8) : Met l yX6_kind (ws_ yX6_kind cX6_kind 1 (some .int)) ({ frames := 0, cells := 0, slots := 0, locals := 0 } : Room) (va_Pc [.ref (L (123 + (8 * 1 + k)))] (pI D (cfC D L x) A)) (rQ (.int 0)) 0 0 nof := by
  refine met_I (by decide) rfl (Nat.le_of_ble_eq_true rfl) ?_
  intro p e s m below meth c ls hx hb hr hml hown hts hlocks hl hI hK
  have F : CallFix p m c cX6_kind 1 s _ lw_all RX6 := ⟨hx, hb, hml, hown, hts⟩
  have hl : lv_has ls 1 [(0, .ref (L (123 + (8 * 1 + k))))] := hl
  refine lv_iconst (v := 0) hx hb dX6_kind_0 (by decide) ?_
  exact W.iret hx hb hr (fun t ht _ => ⟨rI (rfl), ht⟩) (fun q h => by cases h) dX6_kind_1
theorem k_X6_kind_2 {l : Launch} {D : va_G} {L : Nat → Nat} {A : Nat → Prop} (x : cst) (k : Nat) (hk : k < 8) : Met l yX6_kind (ws_ yX6_kind cX6_kind 1 (some .int)) ({ frames := 0, cells := 0, slots := 0, locals := 0 } : Room) (va_Pc [.ref (L (123 + (8 * 2 + k)))] (pI D (cfC D L x) A)) (rQ (.int 0)) 0 0 nof := by
  refine met_I (by decide) rfl (Nat.le_of_ble_eq_true rfl) ?_
  intro p e s m below meth c ls hx hb hr hml hown hts hlocks hl hI hK
  have F : CallFix p m c cX6_kind 1 s _ lw_all RX6 := ⟨hx, hb, hml, hown, hts⟩
  have hl : lv_has ls 1 [(0, .ref (L (123 + (8 * 2 + k))))] := hl
  refine lv_iconst (v := 0) hx hb dX6_kind_0 (by decide) ?_
  exact W.iret hx hb hr (fun t ht _ => ⟨rI (rfl), ht⟩) (fun q h => by cases h) dX6_kind_1
theorem k_X6_kind_3 {l : Launch} {D : va_G} {L : Nat → Nat} {A : Nat → Prop} (x : cst) (k : Nat) (hk : k < 8) : Met l yX6_kind (ws_ yX6_kind cX6_kind 1 (some .int)) ({ frames := 0, cells := 0, slots := 0, locals := 0 } : Room) (va_Pc [.ref (L (123 + (8 * 3 + k)))] (pI D (cfC D L x) A)) (rQ (.int 0)) 0 0 nof := by
  refine met_I (by decide) rfl (Nat.le_of_ble_eq_true rfl) ?_
  intro p e s m below meth c ls hx hb hr hml hown hts hlocks hl hI hK
  have F : CallFix p m c cX6_kind 1 s _ lw_all RX6 := ⟨hx, hb, hml, hown, hts⟩
  have hl : lv_has ls 1 [(0, .ref (L (123 + (8 * 3 + k))))] := hl
  refine lv_iconst (v := 0) hx hb dX6_kind_0 (by decide) ?_
  exact W.iret hx hb hr (fun t ht _ => ⟨rI (rfl), ht⟩) (fun q h => by cases h) dX6_kind_1
theorem k_X6_kind_4 {l : Launch} {D : va_G} {L : Nat → Nat} {A : Nat → Prop} (x : cst) (k : Nat) (hk : k < 8) : Met l yX6_kind (ws_ yX6_kind cX6_kind 1 (some .int)) ({ frames := 0, cells := 0, slots := 0, locals := 0 } : Room) (va_Pc [.ref (L (123 + (8 * 4 + k)))] (pI D (cfC D L x) A)) (rQ (.int 0)) 0 0 nof := by
  refine met_I (by decide) rfl (Nat.le_of_ble_eq_true rfl) ?_
  intro p e s m below meth c ls hx hb hr hml hown hts hlocks hl hI hK
  have F : CallFix p m c cX6_kind 1 s _ lw_all RX6 := ⟨hx, hb, hml, hown, hts⟩
  have hl : lv_has ls 1 [(0, .ref (L (123 + (8 * 4 + k))))] := hl
  refine lv_iconst (v := 0) hx hb dX6_kind_0 (by decide) ?_
  exact W.iret hx hb hr (fun t ht _ => ⟨rI (rfl), ht⟩) (fun q h => by cases h) dX6_kind_1
theorem k_X6_kind_5 {l : Launch} {D : va_G} {L : Nat → Nat} {A : Nat → Prop} (x : cst) (k : Nat) (hk : k < 8) : Met l yX6_kind (ws_ yX6_kind cX6_kind 1 (some .int)) ({ frames := 0, cells := 0, slots := 0, locals := 0 } : Room) (va_Pc [.ref (L (123 + (8 * 5 + k)))] (pI D (cfC D L x) A)) (rQ (.int 0)) 0 0 nof := by
  refine met_I (by decide) rfl (Nat.le_of_ble_eq_true rfl) ?_
  intro p e s m below meth c ls hx hb hr hml hown hts hlocks hl hI hK
  have F : CallFix p m c cX6_kind 1 s _ lw_all RX6 := ⟨hx, hb, hml, hown, hts⟩
  have hl : lv_has ls 1 [(0, .ref (L (123 + (8 * 5 + k))))] := hl
  refine lv_iconst (v := 0) hx hb dX6_kind_0 (by decide) ?_
  exact W.iret hx hb hr (fun t ht _ => ⟨rI (rfl), ht⟩) (fun q h => by cases h) dX6_kind_1
theorem k_X6_kind_6 {l : Launch} {D : va_G} {L : Nat → Nat} {A : Nat → Prop} (x : cst) (k : Nat) (hk : k < 8) : Met l yX6_kind (ws_ yX6_kind cX6_kind 1 (some .int)) ({ frames := 0, cells := 0, slots := 0, locals := 0 } : Room) (va_Pc [.ref (L (123 + (8 * 6 + k)))] (pI D (cfC D L x) A)) (rQ (.int 0)) 0 0 nof := by
  refine met_I (by decide) rfl (Nat.le_of_ble_eq_true rfl) ?_
  intro p e s m below meth c ls hx hb hr hml hown hts hlocks hl hI hK
  have F : CallFix p m c cX6_kind 1 s _ lw_all RX6 := ⟨hx, hb, hml, hown, hts⟩
  have hl : lv_has ls 1 [(0, .ref (L (123 + (8 * 6 + k))))] := hl
  refine lv_iconst (v := 0) hx hb dX6_kind_0 (by decide) ?_
  exact W.iret hx hb hr (fun t ht _ => ⟨rI (rfl), ht⟩) (fun q h => by cases h) dX6_kind_1
theorem k_X7_kind_1 {l : Launch} {D : va_G} {L : Nat → Nat} {A : Nat → Prop} (x : cst) (k : Nat) (hk : k < 8) : Met l yX7_kind (ws_ yX7_kind cX7_kind 1 (some .int)) ({ frames := 1, cells := 0, slots := 0, locals := 20 } : Room) (va_Pc [.ref (L (123 + (8 * 1 + k)))] (pI D (cfC D L x) A)) (rQ (.int 1)) 0 0 nof := by
  refine met_I (by decide) rfl (Nat.le_of_ble_eq_true rfl) ?_
  intro p e s m below meth c ls hx hb hr hml hown hts hlocks hl hI hK
  have F : CallFix p m c cX7_kind 1 s _ lw_all RX7 := ⟨hx, hb, hml, hown, hts⟩
  have hl : lv_has ls 1 [(0, .ref (L (123 + (8 * 1 + k))))] := hl
  refine lv_iconst (v := 1) hx hb dX7_kind_0 (by decide) ?_
  refine lv_aload_n hx hb dX7_kind_1 rfl (lv_at hl 0 rfl) ?_
  refine c_r (k_SUP (As := []) (rest := [.int 1]) (ci := 7) (q := (RX7, TX7, 3)) rfl F (k_X6_kind_1 x k hk) (va_cwSU 0 hts (lw_SU q567 q550 q325 q548 q100 q575) rfl rfl rfl (by decide +kernel) ⟨Nat.le_of_ble_eq_true rfl, Nat.le_of_ble_eq_true rfl⟩) hI hK (cf_gk (κ := 1) (by decide) hk) rfl hl.1 rfl (Nat.le_of_ble_eq_true rfl) dX7_kind_2 ⟨Nat.le_of_ble_eq_true rfl, Nat.le_of_ble_eq_true rfl⟩) ?_
  refine lv_iadd hx hb dX7_kind_5 ?_
  exact W.iret hx hb hr (fun t ht _ => ⟨rI (by decide), ht⟩) (fun q h => by cases h) dX7_kind_6
theorem k_X7_kind_6 {l : Launch} {D : va_G} {L : Nat → Nat} {A : Nat → Prop} (x : cst) (k : Nat) (hk : k < 8) : Met l yX7_kind (ws_ yX7_kind cX7_kind 1 (some .int)) ({ frames := 1, cells := 0, slots := 0, locals := 20 } : Room) (va_Pc [.ref (L (123 + (8 * 6 + k)))] (pI D (cfC D L x) A)) (rQ (.int 1)) 0 0 nof := by
  refine met_I (by decide) rfl (Nat.le_of_ble_eq_true rfl) ?_
  intro p e s m below meth c ls hx hb hr hml hown hts hlocks hl hI hK
  have F : CallFix p m c cX7_kind 1 s _ lw_all RX7 := ⟨hx, hb, hml, hown, hts⟩
  have hl : lv_has ls 1 [(0, .ref (L (123 + (8 * 6 + k))))] := hl
  refine lv_iconst (v := 1) hx hb dX7_kind_0 (by decide) ?_
  refine lv_aload_n hx hb dX7_kind_1 rfl (lv_at hl 0 rfl) ?_
  refine c_r (k_SUP (As := []) (rest := [.int 1]) (ci := 12) (q := (RX12, TX12, 4)) rfl F (k_X6_kind_6 x k hk) (va_cwSU 0 hts (lw_SU q567 q550 q325 q548 q100 q575) rfl rfl rfl (by decide +kernel) ⟨Nat.le_of_ble_eq_true rfl, Nat.le_of_ble_eq_true rfl⟩) hI hK (cf_gk (κ := 6) (by decide) hk) rfl hl.1 rfl (Nat.le_of_ble_eq_true rfl) dX7_kind_2 ⟨Nat.le_of_ble_eq_true rfl, Nat.le_of_ble_eq_true rfl⟩) ?_
  refine lv_iadd hx hb dX7_kind_5 ?_
  exact W.iret hx hb hr (fun t ht _ => ⟨rI (by decide), ht⟩) (fun q h => by cases h) dX7_kind_6
theorem k_X8_kind_2 {l : Launch} {D : va_G} {L : Nat → Nat} {A : Nat → Prop} (x : cst) (k : Nat) (hk : k < 8) : Met l yX8_kind (ws_ yX8_kind cX8_kind 1 (some .int)) ({ frames := 1, cells := 0, slots := 0, locals := 20 } : Room) (va_Pc [.ref (L (123 + (8 * 2 + k)))] (pI D (cfC D L x) A)) (rQ (.int 2)) 0 0 nof := by
  refine met_I (by decide) rfl (Nat.le_of_ble_eq_true rfl) ?_
  intro p e s m below meth c ls hx hb hr hml hown hts hlocks hl hI hK
  have F : CallFix p m c cX8_kind 1 s _ lw_all RX8 := ⟨hx, hb, hml, hown, hts⟩
  have hl : lv_has ls 1 [(0, .ref (L (123 + (8 * 2 + k))))] := hl
  refine lv_iconst (v := 2) hx hb dX8_kind_0 (by decide) ?_
  refine lv_aload_n hx hb dX8_kind_1 rfl (lv_at hl 0 rfl) ?_
  refine c_r (k_SUP (As := []) (rest := [.int 2]) (ci := 8) (q := (RX8, TX8, 3)) rfl F (k_X6_kind_2 x k hk) (va_cwSU 0 hts (lw_SU q560 q550 q337 q548 q100 q575) rfl rfl rfl (by decide +kernel) ⟨Nat.le_of_ble_eq_true rfl, Nat.le_of_ble_eq_true rfl⟩) hI hK (cf_gk (κ := 2) (by decide) hk) rfl hl.1 rfl (Nat.le_of_ble_eq_true rfl) dX8_kind_2 ⟨Nat.le_of_ble_eq_true rfl, Nat.le_of_ble_eq_true rfl⟩) ?_
  refine lv_iadd hx hb dX8_kind_5 ?_
  exact W.iret hx hb hr (fun t ht _ => ⟨rI (by decide), ht⟩) (fun q h => by cases h) dX8_kind_6
theorem k_X8_kind_3 {l : Launch} {D : va_G} {L : Nat → Nat} {A : Nat → Prop} (x : cst) (k : Nat) (hk : k < 8) : Met l yX8_kind (ws_ yX8_kind cX8_kind 1 (some .int)) ({ frames := 1, cells := 0, slots := 0, locals := 20 } : Room) (va_Pc [.ref (L (123 + (8 * 3 + k)))] (pI D (cfC D L x) A)) (rQ (.int 2)) 0 0 nof := by
  refine met_I (by decide) rfl (Nat.le_of_ble_eq_true rfl) ?_
  intro p e s m below meth c ls hx hb hr hml hown hts hlocks hl hI hK
  have F : CallFix p m c cX8_kind 1 s _ lw_all RX8 := ⟨hx, hb, hml, hown, hts⟩
  have hl : lv_has ls 1 [(0, .ref (L (123 + (8 * 3 + k))))] := hl
  refine lv_iconst (v := 2) hx hb dX8_kind_0 (by decide) ?_
  refine lv_aload_n hx hb dX8_kind_1 rfl (lv_at hl 0 rfl) ?_
  refine c_r (k_SUP (As := []) (rest := [.int 2]) (ci := 9) (q := (RX9, TX9, 4)) rfl F (k_X6_kind_3 x k hk) (va_cwSU 0 hts (lw_SU q560 q550 q337 q548 q100 q575) rfl rfl rfl (by decide +kernel) ⟨Nat.le_of_ble_eq_true rfl, Nat.le_of_ble_eq_true rfl⟩) hI hK (cf_gk (κ := 3) (by decide) hk) rfl hl.1 rfl (Nat.le_of_ble_eq_true rfl) dX8_kind_2 ⟨Nat.le_of_ble_eq_true rfl, Nat.le_of_ble_eq_true rfl⟩) ?_
  refine lv_iadd hx hb dX8_kind_5 ?_
  exact W.iret hx hb hr (fun t ht _ => ⟨rI (by decide), ht⟩) (fun q h => by cases h) dX8_kind_6
theorem k_X8_kind_4 {l : Launch} {D : va_G} {L : Nat → Nat} {A : Nat → Prop} (x : cst) (k : Nat) (hk : k < 8) : Met l yX8_kind (ws_ yX8_kind cX8_kind 1 (some .int)) ({ frames := 1, cells := 0, slots := 0, locals := 20 } : Room) (va_Pc [.ref (L (123 + (8 * 4 + k)))] (pI D (cfC D L x) A)) (rQ (.int 2)) 0 0 nof := by
  refine met_I (by decide) rfl (Nat.le_of_ble_eq_true rfl) ?_
  intro p e s m below meth c ls hx hb hr hml hown hts hlocks hl hI hK
  have F : CallFix p m c cX8_kind 1 s _ lw_all RX8 := ⟨hx, hb, hml, hown, hts⟩
  have hl : lv_has ls 1 [(0, .ref (L (123 + (8 * 4 + k))))] := hl
  refine lv_iconst (v := 2) hx hb dX8_kind_0 (by decide) ?_
  refine lv_aload_n hx hb dX8_kind_1 rfl (lv_at hl 0 rfl) ?_
  refine c_r (k_SUP (As := []) (rest := [.int 2]) (ci := 10) (q := (RX10, TX10, 5)) rfl F (k_X6_kind_4 x k hk) (va_cwSU 0 hts (lw_SU q560 q550 q337 q548 q100 q575) rfl rfl rfl (by decide +kernel) ⟨Nat.le_of_ble_eq_true rfl, Nat.le_of_ble_eq_true rfl⟩) hI hK (cf_gk (κ := 4) (by decide) hk) rfl hl.1 rfl (Nat.le_of_ble_eq_true rfl) dX8_kind_2 ⟨Nat.le_of_ble_eq_true rfl, Nat.le_of_ble_eq_true rfl⟩) ?_
  refine lv_iadd hx hb dX8_kind_5 ?_
  exact W.iret hx hb hr (fun t ht _ => ⟨rI (by decide), ht⟩) (fun q h => by cases h) dX8_kind_6
theorem k_X9_kind_3 {l : Launch} {D : va_G} {L : Nat → Nat} {A : Nat → Prop} (x : cst) (k : Nat) (hk : k < 8) : Met l yX9_kind (ws_ yX9_kind cX9_kind 1 (some .int)) ({ frames := 2, cells := 0, slots := 0, locals := 40 } : Room) (va_Pc [.ref (L (123 + (8 * 3 + k)))] (pI D (cfC D L x) A)) (rQ (.int 3)) 0 0 nof := by
  refine met_I (by decide) rfl (Nat.le_of_ble_eq_true rfl) ?_
  intro p e s m below meth c ls hx hb hr hml hown hts hlocks hl hI hK
  have F : CallFix p m c cX9_kind 1 s _ lw_all RX9 := ⟨hx, hb, hml, hown, hts⟩
  have hl : lv_has ls 1 [(0, .ref (L (123 + (8 * 3 + k))))] := hl
  refine lv_iconst (v := 1) hx hb dX9_kind_0 (by decide) ?_
  refine lv_aload_n hx hb dX9_kind_1 rfl (lv_at hl 0 rfl) ?_
  refine c_r (k_SUP (As := []) (rest := [.int 1]) (ci := 9) (q := (RX9, TX9, 4)) rfl F (k_X8_kind_3 x k hk) (va_cwSU 0 hts (lw_SU q557 q1632 q350 q558 q102 q559) rfl rfl rfl (by decide +kernel) ⟨Nat.le_of_ble_eq_true rfl, Nat.le_of_ble_eq_true rfl⟩) hI hK (cf_gk (κ := 3) (by decide) hk) rfl hl.1 rfl (Nat.le_of_ble_eq_true rfl) dX9_kind_2 ⟨Nat.le_of_ble_eq_true rfl, Nat.le_of_ble_eq_true rfl⟩) ?_
  refine lv_iadd hx hb dX9_kind_5 ?_
  exact W.iret hx hb hr (fun t ht _ => ⟨rI (by decide), ht⟩) (fun q h => by cases h) dX9_kind_6
theorem k_X9_kind_4 {l : Launch} {D : va_G} {L : Nat → Nat} {A : Nat → Prop} (x : cst) (k : Nat) (hk : k < 8) : Met l yX9_kind (ws_ yX9_kind cX9_kind 1 (some .int)) ({ frames := 2, cells := 0, slots := 0, locals := 40 } : Room) (va_Pc [.ref (L (123 + (8 * 4 + k)))] (pI D (cfC D L x) A)) (rQ (.int 3)) 0 0 nof := by
  refine met_I (by decide) rfl (Nat.le_of_ble_eq_true rfl) ?_
  intro p e s m below meth c ls hx hb hr hml hown hts hlocks hl hI hK
  have F : CallFix p m c cX9_kind 1 s _ lw_all RX9 := ⟨hx, hb, hml, hown, hts⟩
  have hl : lv_has ls 1 [(0, .ref (L (123 + (8 * 4 + k))))] := hl
  refine lv_iconst (v := 1) hx hb dX9_kind_0 (by decide) ?_
  refine lv_aload_n hx hb dX9_kind_1 rfl (lv_at hl 0 rfl) ?_
  refine c_r (k_SUP (As := []) (rest := [.int 1]) (ci := 10) (q := (RX10, TX10, 5)) rfl F (k_X8_kind_4 x k hk) (va_cwSU 0 hts (lw_SU q557 q1632 q350 q558 q102 q559) rfl rfl rfl (by decide +kernel) ⟨Nat.le_of_ble_eq_true rfl, Nat.le_of_ble_eq_true rfl⟩) hI hK (cf_gk (κ := 4) (by decide) hk) rfl hl.1 rfl (Nat.le_of_ble_eq_true rfl) dX9_kind_2 ⟨Nat.le_of_ble_eq_true rfl, Nat.le_of_ble_eq_true rfl⟩) ?_
  refine lv_iadd hx hb dX9_kind_5 ?_
  exact W.iret hx hb hr (fun t ht _ => ⟨rI (by decide), ht⟩) (fun q h => by cases h) dX9_kind_6
theorem k_X10_kind_4 {l : Launch} {D : va_G} {L : Nat → Nat} {A : Nat → Prop} (x : cst) (k : Nat) (hk : k < 8) : Met l yX10_kind (ws_ yX10_kind cX10_kind 1 (some .int)) ({ frames := 3, cells := 0, slots := 0, locals := 60 } : Room) (va_Pc [.ref (L (123 + (8 * 4 + k)))] (pI D (cfC D L x) A)) (rQ (.int 4)) 0 0 nof := by
  refine met_I (by decide) rfl (Nat.le_of_ble_eq_true rfl) ?_
  intro p e s m below meth c ls hx hb hr hml hown hts hlocks hl hI hK
  have F : CallFix p m c cX10_kind 1 s _ lw_all RX10 := ⟨hx, hb, hml, hown, hts⟩
  have hl : lv_has ls 1 [(0, .ref (L (123 + (8 * 4 + k))))] := hl
  refine lv_iconst (v := 1) hx hb dX10_kind_0 (by decide) ?_
  refine lv_aload_n hx hb dX10_kind_1 rfl (lv_at hl 0 rfl) ?_
  refine c_r (k_SUP (As := []) (rest := [.int 1]) (ci := 10) (q := (RX10, TX10, 5)) rfl F (k_X9_kind_4 x k hk) (va_cwSU 0 hts (lw_SU q554 q1631 q364 q555 q103 q556) rfl rfl rfl (by decide +kernel) ⟨Nat.le_of_ble_eq_true rfl, Nat.le_of_ble_eq_true rfl⟩) hI hK (cf_gk (κ := 4) (by decide) hk) rfl hl.1 rfl (Nat.le_of_ble_eq_true rfl) dX10_kind_2 ⟨Nat.le_of_ble_eq_true rfl, Nat.le_of_ble_eq_true rfl⟩) ?_
  refine lv_iadd hx hb dX10_kind_5 ?_
  exact W.iret hx hb hr (fun t ht _ => ⟨rI (by decide), ht⟩) (fun q h => by cases h) dX10_kind_6
theorem k_X11_kind_5 {l : Launch} {D : va_G} {L : Nat → Nat} {A : Nat → Prop} (x : cst) (k : Nat) (hk : k < 8) : Met l yX11_kind (ws_ yX11_kind cX11_kind 1 (some .int)) ({ frames := 1, cells := 0, slots := 0, locals := 20 } : Room) (va_Pc [.ref (L (123 + (8 * 5 + k)))] (pI D (cfC D L x) A)) (rQ (.int 5)) 0 0 nof := by
  refine met_I (by decide) rfl (Nat.le_of_ble_eq_true rfl) ?_
  intro p e s m below meth c ls hx hb hr hml hown hts hlocks hl hI hK
  have F : CallFix p m c cX11_kind 1 s _ lw_all RX11 := ⟨hx, hb, hml, hown, hts⟩
  have hl : lv_has ls 1 [(0, .ref (L (123 + (8 * 5 + k))))] := hl
  refine lv_iconst (v := 5) hx hb dX11_kind_0 (by decide) ?_
  refine lv_aload_n hx hb dX11_kind_1 rfl (lv_at hl 0 rfl) ?_
  refine c_r (k_SUP (As := []) (rest := [.int 5]) (ci := 11) (q := (RX11, TX11, 3)) rfl F (k_X6_kind_5 x k hk) (va_cwSU 0 hts (lw_SU q574 q550 q376 q548 q100 q575) rfl rfl rfl (by decide +kernel) ⟨Nat.le_of_ble_eq_true rfl, Nat.le_of_ble_eq_true rfl⟩) hI hK (cf_gk (κ := 5) (by decide) hk) rfl hl.1 rfl (Nat.le_of_ble_eq_true rfl) dX11_kind_2 ⟨Nat.le_of_ble_eq_true rfl, Nat.le_of_ble_eq_true rfl⟩) ?_
  refine lv_iadd hx hb dX11_kind_5 ?_
  exact W.iret hx hb hr (fun t ht _ => ⟨rI (by decide), ht⟩) (fun q h => by cases h) dX11_kind_6
theorem k_X12_kind_6 {l : Launch} {D : va_G} {L : Nat → Nat} {A : Nat → Prop} (x : cst) (k : Nat) (hk : k < 8) : Met l yX12_kind (ws_ yX12_kind cX12_kind 1 (some .int)) ({ frames := 2, cells := 0, slots := 0, locals := 40 } : Room) (va_Pc [.ref (L (123 + (8 * 6 + k)))] (pI D (cfC D L x) A)) (rQ (.int 6)) 0 0 nof := by
  refine met_I (by decide) rfl (Nat.le_of_ble_eq_true rfl) ?_
  intro p e s m below meth c ls hx hb hr hml hown hts hlocks hl hI hK
  have F : CallFix p m c cX12_kind 1 s _ lw_all RX12 := ⟨hx, hb, hml, hown, hts⟩
  have hl : lv_has ls 1 [(0, .ref (L (123 + (8 * 6 + k))))] := hl
  refine lv_iconst (v := 5) hx hb dX12_kind_0 (by decide) ?_
  refine lv_aload_n hx hb dX12_kind_1 rfl (lv_at hl 0 rfl) ?_
  refine c_r (k_SUP (As := []) (rest := [.int 5]) (ci := 12) (q := (RX12, TX12, 4)) rfl F (k_X7_kind_6 x k hk) (va_cwSU 0 hts (lw_SU q564 q1633 q389 q565 q101 q566) rfl rfl rfl (by decide +kernel) ⟨Nat.le_of_ble_eq_true rfl, Nat.le_of_ble_eq_true rfl⟩) hI hK (cf_gk (κ := 6) (by decide) hk) rfl hl.1 rfl (Nat.le_of_ble_eq_true rfl) dX12_kind_2 ⟨Nat.le_of_ble_eq_true rfl, Nat.le_of_ble_eq_true rfl⟩) ?_
  refine lv_iadd hx hb dX12_kind_5 ?_
  exact W.iret hx hb hr (fun t ht _ => ⟨rI (by decide), ht⟩) (fun q h => by cases h) dX12_kind_6
theorem k_X6_isUnder_0 {l : Launch} {D : va_G} {L : Nat → Nat} {A : Nat → Prop} (x : cst) (k : Nat) (hk : k < 8) (kd : Int32) : Met l yX6_isUnder (ws_ yX6_isUnder cX6_isUnder 2 (some .boolean)) ({ frames := 1, cells := 0, slots := 0, locals := 20 } : Room) (va_Pc [.ref (L (123 + (8 * 0 + k))), .int kd] (pI D (cfC D L x) A)) (rQ (.int (g0I 0 kd))) 0 0 nof := by
  refine met_I (by decide) rfl (Nat.le_of_ble_eq_true rfl) ?_
  intro p e s m below meth c ls hx hb hr hml hown hts hlocks hl hI hK
  have F : CallFix p m c cX6_isUnder 2 s _ lw_all RX6 := ⟨hx, hb, hml, hown, hts⟩
  have hl : lv_has ls 2 [(0, .ref (L (123 + (8 * 0 + k)))), (1, .int kd)] := hl
  refine lv_iload_n hx hb dX6_isUnder_0 rfl (lv_at hl 1 rfl) ?_
  refine lv_if_eq (tgt := 12) hx hb dX6_isUnder_1 (by decide) (fun c_1 => ?_) (fun c_1 => ?_)
  · skip
    refine lv_iconst (v := 1) hx hb dX6_isUnder_12 (by decide) ?_
    refine lv_goto (tgt := 17) hx hb dX6_isUnder_13 (by decide) ?_
    exact W.zret hx hb hr (rfl) (fun t ht _ => ⟨rI (by simp [g0I, kdI, c_1]), ht⟩) (fun q h => by cases h) dX6_isUnder_17
  · skip
    refine lv_iload_n hx hb dX6_isUnder_4 rfl (lv_at hl 1 rfl) ?_
    refine lv_aload_n hx hb dX6_isUnder_5 rfl (lv_at hl 0 rfl) ?_
    refine c_r (k_V (As := []) (rest := [.int kd]) F (k_X6_kind_0 x k hk) (cwV 0 hts (lw_V q1095 q548 q549 q100 q575) rfl rfl rfl (by decide +kernel) ⟨Nat.le_of_ble_eq_true rfl, Nat.le_of_ble_eq_true rfl⟩) hI hK (hw.recv hI hK (cf_gk (κ := 0) (by decide) hk) (q := (RX6, TX6, 2)) rfl) rfl hl.1 rfl (Nat.le_of_ble_eq_true rfl) dX6_isUnder_6 ⟨Nat.le_of_ble_eq_true rfl, Nat.le_of_ble_eq_true rfl⟩) ?_
    refine lv_icmp_ne (tgt := 16) hx hb dX6_isUnder_9 (by decide) (fun c_9 => ?_) (fun c_9 => ?_)
    · skip
      refine lv_iconst (v := 0) hx hb dX6_isUnder_16 (by decide) ?_
      exact W.zret hx hb hr (rfl) (fun t ht _ => ⟨rI (by simp [g0I, kdI, c_1, c_9]), ht⟩) (fun q h => by cases h) dX6_isUnder_17
    · skip
      refine lv_iconst (v := 1) hx hb dX6_isUnder_12 (by decide) ?_
      refine lv_goto (tgt := 17) hx hb dX6_isUnder_13 (by decide) ?_
      exact W.zret hx hb hr (rfl) (fun t ht _ => ⟨rI (by simp [g0I, kdI, c_1, c_9]), ht⟩) (fun q h => by cases h) dX6_isUnder_17
theorem k_X6_isUnder_1 {l : Launch} {D : va_G} {L : Nat → Nat} {A : Nat → Prop} (x : cst) (k : Nat) (hk : k < 8) (kd : Int32) : Met l yX6_isUnder (ws_ yX6_isUnder cX6_isUnder 2 (some .boolean)) ({ frames := 2, cells := 0, slots := 0, locals := 40 } : Room) (va_Pc [.ref (L (123 + (8 * 1 + k))), .int kd] (pI D (cfC D L x) A)) (rQ (.int (g0I 1 kd))) 0 0 nof := by
  refine met_I (by decide) rfl (Nat.le_of_ble_eq_true rfl) ?_
  intro p e s m below meth c ls hx hb hr hml hown hts hlocks hl hI hK
  have F : CallFix p m c cX6_isUnder 2 s _ lw_all RX6 := ⟨hx, hb, hml, hown, hts⟩
  have hl : lv_has ls 2 [(0, .ref (L (123 + (8 * 1 + k)))), (1, .int kd)] := hl
  refine lv_iload_n hx hb dX6_isUnder_0 rfl (lv_at hl 1 rfl) ?_
  refine lv_if_eq (tgt := 12) hx hb dX6_isUnder_1 (by decide) (fun c_1 => ?_) (fun c_1 => ?_)
  · skip
    refine lv_iconst (v := 1) hx hb dX6_isUnder_12 (by decide) ?_
    refine lv_goto (tgt := 17) hx hb dX6_isUnder_13 (by decide) ?_
    exact W.zret hx hb hr (rfl) (fun t ht _ => ⟨rI (by simp [g0I, kdI, c_1]), ht⟩) (fun q h => by cases h) dX6_isUnder_17
  · skip
    refine lv_iload_n hx hb dX6_isUnder_4 rfl (lv_at hl 1 rfl) ?_
    refine lv_aload_n hx hb dX6_isUnder_5 rfl (lv_at hl 0 rfl) ?_
    refine c_r (k_U (As := []) (rest := [.int kd]) F (k_X7_kind_1 x k hk) (va_cwO (owner := "LeftGloves$Glove") 0 hts (lw_O q1095 q550 q548 q568 q565 q101 q566) rfl rfl rfl q575 (by decide +kernel) ⟨Nat.le_of_ble_eq_true rfl, Nat.le_of_ble_eq_true rfl⟩) hI hK (hw.recv hI hK (cf_gk (κ := 1) (by decide) hk) (q := (RX7, TX7, 3)) rfl) rfl hl.1 rfl (Nat.le_of_ble_eq_true rfl) dX6_isUnder_6 ⟨Nat.le_of_ble_eq_true rfl, Nat.le_of_ble_eq_true rfl⟩) ?_
    refine lv_icmp_ne (tgt := 16) hx hb dX6_isUnder_9 (by decide) (fun c_9 => ?_) (fun c_9 => ?_)
    · skip
      refine lv_iconst (v := 0) hx hb dX6_isUnder_16 (by decide) ?_
      exact W.zret hx hb hr (rfl) (fun t ht _ => ⟨rI (by simp [g0I, kdI, c_1, c_9]), ht⟩) (fun q h => by cases h) dX6_isUnder_17
    · skip
      refine lv_iconst (v := 1) hx hb dX6_isUnder_12 (by decide) ?_
      refine lv_goto (tgt := 17) hx hb dX6_isUnder_13 (by decide) ?_
      exact W.zret hx hb hr (rfl) (fun t ht _ => ⟨rI (by simp [g0I, kdI, c_1, c_9]), ht⟩) (fun q h => by cases h) dX6_isUnder_17
theorem k_X6_isUnder_2 {l : Launch} {D : va_G} {L : Nat → Nat} {A : Nat → Prop} (x : cst) (k : Nat) (hk : k < 8) (kd : Int32) : Met l yX6_isUnder (ws_ yX6_isUnder cX6_isUnder 2 (some .boolean)) ({ frames := 2, cells := 0, slots := 0, locals := 40 } : Room) (va_Pc [.ref (L (123 + (8 * 2 + k))), .int kd] (pI D (cfC D L x) A)) (rQ (.int (g0I 2 kd))) 0 0 nof := by
  refine met_I (by decide) rfl (Nat.le_of_ble_eq_true rfl) ?_
  intro p e s m below meth c ls hx hb hr hml hown hts hlocks hl hI hK
  have F : CallFix p m c cX6_isUnder 2 s _ lw_all RX6 := ⟨hx, hb, hml, hown, hts⟩
  have hl : lv_has ls 2 [(0, .ref (L (123 + (8 * 2 + k)))), (1, .int kd)] := hl
  refine lv_iload_n hx hb dX6_isUnder_0 rfl (lv_at hl 1 rfl) ?_
  refine lv_if_eq (tgt := 12) hx hb dX6_isUnder_1 (by decide) (fun c_1 => ?_) (fun c_1 => ?_)
  · skip
    refine lv_iconst (v := 1) hx hb dX6_isUnder_12 (by decide) ?_
    refine lv_goto (tgt := 17) hx hb dX6_isUnder_13 (by decide) ?_
    exact W.zret hx hb hr (rfl) (fun t ht _ => ⟨rI (by simp [g0I, kdI, c_1]), ht⟩) (fun q h => by cases h) dX6_isUnder_17
  · skip
    refine lv_iload_n hx hb dX6_isUnder_4 rfl (lv_at hl 1 rfl) ?_
    refine lv_aload_n hx hb dX6_isUnder_5 rfl (lv_at hl 0 rfl) ?_
    refine c_r (k_U (As := []) (rest := [.int kd]) F (k_X8_kind_2 x k hk) (va_cwO (owner := "LeftGloves$Glove") 0 hts (lw_O q1095 q550 q548 q570 q558 q102 q559) rfl rfl rfl q575 (by decide +kernel) ⟨Nat.le_of_ble_eq_true rfl, Nat.le_of_ble_eq_true rfl⟩) hI hK (hw.recv hI hK (cf_gk (κ := 2) (by decide) hk) (q := (RX8, TX8, 3)) rfl) rfl hl.1 rfl (Nat.le_of_ble_eq_true rfl) dX6_isUnder_6 ⟨Nat.le_of_ble_eq_true rfl, Nat.le_of_ble_eq_true rfl⟩) ?_
    refine lv_icmp_ne (tgt := 16) hx hb dX6_isUnder_9 (by decide) (fun c_9 => ?_) (fun c_9 => ?_)
    · skip
      refine lv_iconst (v := 0) hx hb dX6_isUnder_16 (by decide) ?_
      exact W.zret hx hb hr (rfl) (fun t ht _ => ⟨rI (by simp [g0I, kdI, c_1, c_9]), ht⟩) (fun q h => by cases h) dX6_isUnder_17
    · skip
      refine lv_iconst (v := 1) hx hb dX6_isUnder_12 (by decide) ?_
      refine lv_goto (tgt := 17) hx hb dX6_isUnder_13 (by decide) ?_
      exact W.zret hx hb hr (rfl) (fun t ht _ => ⟨rI (by simp [g0I, kdI, c_1, c_9]), ht⟩) (fun q h => by cases h) dX6_isUnder_17
theorem k_X6_isUnder_3 {l : Launch} {D : va_G} {L : Nat → Nat} {A : Nat → Prop} (x : cst) (k : Nat) (hk : k < 8) (kd : Int32) : Met l yX6_isUnder (ws_ yX6_isUnder cX6_isUnder 2 (some .boolean)) ({ frames := 3, cells := 0, slots := 0, locals := 60 } : Room) (va_Pc [.ref (L (123 + (8 * 3 + k))), .int kd] (pI D (cfC D L x) A)) (rQ (.int (g0I 3 kd))) 0 0 nof := by
  refine met_I (by decide) rfl (Nat.le_of_ble_eq_true rfl) ?_
  intro p e s m below meth c ls hx hb hr hml hown hts hlocks hl hI hK
  have F : CallFix p m c cX6_isUnder 2 s _ lw_all RX6 := ⟨hx, hb, hml, hown, hts⟩
  have hl : lv_has ls 2 [(0, .ref (L (123 + (8 * 3 + k)))), (1, .int kd)] := hl
  refine lv_iload_n hx hb dX6_isUnder_0 rfl (lv_at hl 1 rfl) ?_
  refine lv_if_eq (tgt := 12) hx hb dX6_isUnder_1 (by decide) (fun c_1 => ?_) (fun c_1 => ?_)
  · skip
    refine lv_iconst (v := 1) hx hb dX6_isUnder_12 (by decide) ?_
    refine lv_goto (tgt := 17) hx hb dX6_isUnder_13 (by decide) ?_
    exact W.zret hx hb hr (rfl) (fun t ht _ => ⟨rI (by simp [g0I, kdI, c_1]), ht⟩) (fun q h => by cases h) dX6_isUnder_17
  · skip
    refine lv_iload_n hx hb dX6_isUnder_4 rfl (lv_at hl 1 rfl) ?_
    refine lv_aload_n hx hb dX6_isUnder_5 rfl (lv_at hl 0 rfl) ?_
    refine c_r (k_U (As := []) (rest := [.int kd]) F (k_X9_kind_3 x k hk) (va_cwO (owner := "LeftGloves$Glove") 0 hts (lw_O q1095 q550 q548 q569 q555 q103 q556) rfl rfl rfl q575 (by decide +kernel) ⟨Nat.le_of_ble_eq_true rfl, Nat.le_of_ble_eq_true rfl⟩) hI hK (hw.recv hI hK (cf_gk (κ := 3) (by decide) hk) (q := (RX9, TX9, 4)) rfl) rfl hl.1 rfl (Nat.le_of_ble_eq_true rfl) dX6_isUnder_6 ⟨Nat.le_of_ble_eq_true rfl, Nat.le_of_ble_eq_true rfl⟩) ?_
    refine lv_icmp_ne (tgt := 16) hx hb dX6_isUnder_9 (by decide) (fun c_9 => ?_) (fun c_9 => ?_)
    · skip
      refine lv_iconst (v := 0) hx hb dX6_isUnder_16 (by decide) ?_
      exact W.zret hx hb hr (rfl) (fun t ht _ => ⟨rI (by simp [g0I, kdI, c_1, c_9]), ht⟩) (fun q h => by cases h) dX6_isUnder_17
    · skip
      refine lv_iconst (v := 1) hx hb dX6_isUnder_12 (by decide) ?_
      refine lv_goto (tgt := 17) hx hb dX6_isUnder_13 (by decide) ?_
      exact W.zret hx hb hr (rfl) (fun t ht _ => ⟨rI (by simp [g0I, kdI, c_1, c_9]), ht⟩) (fun q h => by cases h) dX6_isUnder_17
theorem k_X6_isUnder_4 {l : Launch} {D : va_G} {L : Nat → Nat} {A : Nat → Prop} (x : cst) (k : Nat) (hk : k < 8) (kd : Int32) : Met l yX6_isUnder (ws_ yX6_isUnder cX6_isUnder 2 (some .boolean)) ({ frames := 4, cells := 0, slots := 0, locals := 80 } : Room) (va_Pc [.ref (L (123 + (8 * 4 + k))), .int kd] (pI D (cfC D L x) A)) (rQ (.int (g0I 4 kd))) 0 0 nof := by
  refine met_I (by decide) rfl (Nat.le_of_ble_eq_true rfl) ?_
  intro p e s m below meth c ls hx hb hr hml hown hts hlocks hl hI hK
  have F : CallFix p m c cX6_isUnder 2 s _ lw_all RX6 := ⟨hx, hb, hml, hown, hts⟩
  have hl : lv_has ls 2 [(0, .ref (L (123 + (8 * 4 + k)))), (1, .int kd)] := hl
  refine lv_iload_n hx hb dX6_isUnder_0 rfl (lv_at hl 1 rfl) ?_
  refine lv_if_eq (tgt := 12) hx hb dX6_isUnder_1 (by decide) (fun c_1 => ?_) (fun c_1 => ?_)
  · skip
    refine lv_iconst (v := 1) hx hb dX6_isUnder_12 (by decide) ?_
    refine lv_goto (tgt := 17) hx hb dX6_isUnder_13 (by decide) ?_
    exact W.zret hx hb hr (rfl) (fun t ht _ => ⟨rI (by simp [g0I, kdI, c_1]), ht⟩) (fun q h => by cases h) dX6_isUnder_17
  · skip
    refine lv_iload_n hx hb dX6_isUnder_4 rfl (lv_at hl 1 rfl) ?_
    refine lv_aload_n hx hb dX6_isUnder_5 rfl (lv_at hl 0 rfl) ?_
    refine c_r (k_U (As := []) (rest := [.int kd]) F (k_X10_kind_4 x k hk) (va_cwO (owner := "LeftGloves$Glove") 0 hts (lw_O q1095 q550 q548 q551 q552 q104 q553) rfl rfl rfl q575 (by decide +kernel) ⟨Nat.le_of_ble_eq_true rfl, Nat.le_of_ble_eq_true rfl⟩) hI hK (hw.recv hI hK (cf_gk (κ := 4) (by decide) hk) (q := (RX10, TX10, 5)) rfl) rfl hl.1 rfl (Nat.le_of_ble_eq_true rfl) dX6_isUnder_6 ⟨Nat.le_of_ble_eq_true rfl, Nat.le_of_ble_eq_true rfl⟩) ?_
    refine lv_icmp_ne (tgt := 16) hx hb dX6_isUnder_9 (by decide) (fun c_9 => ?_) (fun c_9 => ?_)
    · skip
      refine lv_iconst (v := 0) hx hb dX6_isUnder_16 (by decide) ?_
      exact W.zret hx hb hr (rfl) (fun t ht _ => ⟨rI (by simp [g0I, kdI, c_1, c_9]), ht⟩) (fun q h => by cases h) dX6_isUnder_17
    · skip
      refine lv_iconst (v := 1) hx hb dX6_isUnder_12 (by decide) ?_
      refine lv_goto (tgt := 17) hx hb dX6_isUnder_13 (by decide) ?_
      exact W.zret hx hb hr (rfl) (fun t ht _ => ⟨rI (by simp [g0I, kdI, c_1, c_9]), ht⟩) (fun q h => by cases h) dX6_isUnder_17
theorem k_X6_isUnder_5 {l : Launch} {D : va_G} {L : Nat → Nat} {A : Nat → Prop} (x : cst) (k : Nat) (hk : k < 8) (kd : Int32) : Met l yX6_isUnder (ws_ yX6_isUnder cX6_isUnder 2 (some .boolean)) ({ frames := 2, cells := 0, slots := 0, locals := 40 } : Room) (va_Pc [.ref (L (123 + (8 * 5 + k))), .int kd] (pI D (cfC D L x) A)) (rQ (.int (g0I 5 kd))) 0 0 nof := by
  refine met_I (by decide) rfl (Nat.le_of_ble_eq_true rfl) ?_
  intro p e s m below meth c ls hx hb hr hml hown hts hlocks hl hI hK
  have F : CallFix p m c cX6_isUnder 2 s _ lw_all RX6 := ⟨hx, hb, hml, hown, hts⟩
  have hl : lv_has ls 2 [(0, .ref (L (123 + (8 * 5 + k)))), (1, .int kd)] := hl
  refine lv_iload_n hx hb dX6_isUnder_0 rfl (lv_at hl 1 rfl) ?_
  refine lv_if_eq (tgt := 12) hx hb dX6_isUnder_1 (by decide) (fun c_1 => ?_) (fun c_1 => ?_)
  · skip
    refine lv_iconst (v := 1) hx hb dX6_isUnder_12 (by decide) ?_
    refine lv_goto (tgt := 17) hx hb dX6_isUnder_13 (by decide) ?_
    exact W.zret hx hb hr (rfl) (fun t ht _ => ⟨rI (by simp [g0I, kdI, c_1]), ht⟩) (fun q h => by cases h) dX6_isUnder_17
  · skip
    refine lv_iload_n hx hb dX6_isUnder_4 rfl (lv_at hl 1 rfl) ?_
    refine lv_aload_n hx hb dX6_isUnder_5 rfl (lv_at hl 0 rfl) ?_
    refine c_r (k_U (As := []) (rest := [.int kd]) F (k_X11_kind_5 x k hk) (va_cwO (owner := "LeftGloves$Glove") 0 hts (lw_O q1095 q550 q548 q571 q572 q105 q573) rfl rfl rfl q575 (by decide +kernel) ⟨Nat.le_of_ble_eq_true rfl, Nat.le_of_ble_eq_true rfl⟩) hI hK (hw.recv hI hK (cf_gk (κ := 5) (by decide) hk) (q := (RX11, TX11, 3)) rfl) rfl hl.1 rfl (Nat.le_of_ble_eq_true rfl) dX6_isUnder_6 ⟨Nat.le_of_ble_eq_true rfl, Nat.le_of_ble_eq_true rfl⟩) ?_
    refine lv_icmp_ne (tgt := 16) hx hb dX6_isUnder_9 (by decide) (fun c_9 => ?_) (fun c_9 => ?_)
    · skip
      refine lv_iconst (v := 0) hx hb dX6_isUnder_16 (by decide) ?_
      exact W.zret hx hb hr (rfl) (fun t ht _ => ⟨rI (by simp [g0I, kdI, c_1, c_9]), ht⟩) (fun q h => by cases h) dX6_isUnder_17
    · skip
      refine lv_iconst (v := 1) hx hb dX6_isUnder_12 (by decide) ?_
      refine lv_goto (tgt := 17) hx hb dX6_isUnder_13 (by decide) ?_
      exact W.zret hx hb hr (rfl) (fun t ht _ => ⟨rI (by simp [g0I, kdI, c_1, c_9]), ht⟩) (fun q h => by cases h) dX6_isUnder_17
theorem k_X6_isUnder_6 {l : Launch} {D : va_G} {L : Nat → Nat} {A : Nat → Prop} (x : cst) (k : Nat) (hk : k < 8) (kd : Int32) : Met l yX6_isUnder (ws_ yX6_isUnder cX6_isUnder 2 (some .boolean)) ({ frames := 3, cells := 0, slots := 0, locals := 60 } : Room) (va_Pc [.ref (L (123 + (8 * 6 + k))), .int kd] (pI D (cfC D L x) A)) (rQ (.int (g0I 6 kd))) 0 0 nof := by
  refine met_I (by decide) rfl (Nat.le_of_ble_eq_true rfl) ?_
  intro p e s m below meth c ls hx hb hr hml hown hts hlocks hl hI hK
  have F : CallFix p m c cX6_isUnder 2 s _ lw_all RX6 := ⟨hx, hb, hml, hown, hts⟩
  have hl : lv_has ls 2 [(0, .ref (L (123 + (8 * 6 + k)))), (1, .int kd)] := hl
  refine lv_iload_n hx hb dX6_isUnder_0 rfl (lv_at hl 1 rfl) ?_
  refine lv_if_eq (tgt := 12) hx hb dX6_isUnder_1 (by decide) (fun c_1 => ?_) (fun c_1 => ?_)
  · skip
    refine lv_iconst (v := 1) hx hb dX6_isUnder_12 (by decide) ?_
    refine lv_goto (tgt := 17) hx hb dX6_isUnder_13 (by decide) ?_
    exact W.zret hx hb hr (rfl) (fun t ht _ => ⟨rI (by simp [g0I, kdI, c_1]), ht⟩) (fun q h => by cases h) dX6_isUnder_17
  · skip
    refine lv_iload_n hx hb dX6_isUnder_4 rfl (lv_at hl 1 rfl) ?_
    refine lv_aload_n hx hb dX6_isUnder_5 rfl (lv_at hl 0 rfl) ?_
    refine c_r (k_U (As := []) (rest := [.int kd]) F (k_X12_kind_6 x k hk) (va_cwO (owner := "LeftGloves$Glove") 0 hts (lw_O q1095 q550 q548 q561 q562 q106 q563) rfl rfl rfl q575 (by decide +kernel) ⟨Nat.le_of_ble_eq_true rfl, Nat.le_of_ble_eq_true rfl⟩) hI hK (hw.recv hI hK (cf_gk (κ := 6) (by decide) hk) (q := (RX12, TX12, 4)) rfl) rfl hl.1 rfl (Nat.le_of_ble_eq_true rfl) dX6_isUnder_6 ⟨Nat.le_of_ble_eq_true rfl, Nat.le_of_ble_eq_true rfl⟩) ?_
    refine lv_icmp_ne (tgt := 16) hx hb dX6_isUnder_9 (by decide) (fun c_9 => ?_) (fun c_9 => ?_)
    · skip
      refine lv_iconst (v := 0) hx hb dX6_isUnder_16 (by decide) ?_
      exact W.zret hx hb hr (rfl) (fun t ht _ => ⟨rI (by simp [g0I, kdI, c_1, c_9]), ht⟩) (fun q h => by cases h) dX6_isUnder_17
    · skip
      refine lv_iconst (v := 1) hx hb dX6_isUnder_12 (by decide) ?_
      refine lv_goto (tgt := 17) hx hb dX6_isUnder_13 (by decide) ?_
      exact W.zret hx hb hr (rfl) (fun t ht _ => ⟨rI (by simp [g0I, kdI, c_1, c_9]), ht⟩) (fun q h => by cases h) dX6_isUnder_17
theorem k_X7_isUnder_1 {l : Launch} {D : va_G} {L : Nat → Nat} {A : Nat → Prop} (x : cst) (k : Nat) (hk : k < 8) (kd : Int32) : Met l yX7_isUnder (ws_ yX7_isUnder cX7_isUnder 2 (some .boolean)) ({ frames := 3, cells := 0, slots := 0, locals := 61 } : Room) (va_Pc [.ref (L (123 + (8 * 1 + k))), .int kd] (pI D (cfC D L x) A)) (rQ (.int (if kd = 1 then 1 else g0I 1 kd))) 0 0 nof := by
  refine met_I (by decide) rfl (Nat.le_of_ble_eq_true rfl) ?_
  intro p e s m below meth c ls hx hb hr hml hown hts hlocks hl hI hK
  have F : CallFix p m c cX7_isUnder 2 s _ lw_all RX7 := ⟨hx, hb, hml, hown, hts⟩
  have hl : lv_has ls 2 [(0, .ref (L (123 + (8 * 1 + k)))), (1, .int kd)] := hl
  refine lv_iload_n hx hb dX7_isUnder_0 rfl (lv_at hl 1 rfl) ?_
  refine lv_iconst (v := 1) hx hb dX7_isUnder_1 (by decide) ?_
  refine lv_icmp_eq (tgt := 13) hx hb dX7_isUnder_2 (by decide) (fun c_2 => ?_) (fun c_2 => ?_)
  · skip
    refine lv_iconst (v := 1) hx hb dX7_isUnder_13 (by decide) ?_
    refine lv_goto (tgt := 18) hx hb dX7_isUnder_14 (by decide) ?_
    exact W.zret hx hb hr (rfl) (fun t ht _ => ⟨rI (by first | (simp [c_2]; done) | (simp [c_2, (g0I_01 1 kd).resolve_left c_10]; done)), ht⟩) (fun q h => by cases h) dX7_isUnder_18
  · skip
    refine lv_aload_n hx hb dX7_isUnder_5 rfl (lv_at hl 0 rfl) ?_
    refine lv_iload_n hx hb dX7_isUnder_6 rfl (lv_at hl 1 rfl) ?_
    refine c_r (k_SUP (As := [.int kd]) (rest := []) (ci := 7) (q := (RX7, TX7, 3)) rfl F (k_X6_isUnder_1 x k hk kd) (va_cwSU 1 hts (lw_SU q1089 q1078 q325 q1076 q100 q1094) rfl rfl rfl (by decide +kernel) ⟨Nat.le_of_ble_eq_true rfl, Nat.le_of_ble_eq_true rfl⟩) hI hK (cf_gk (κ := 1) (by decide) hk) rfl hl.1 rfl (Nat.le_of_ble_eq_true rfl) dX7_isUnder_7 ⟨Nat.le_of_ble_eq_true rfl, Nat.le_of_ble_eq_true rfl⟩) ?_
    refine lv_if_eq (tgt := 17) hx hb dX7_isUnder_10 (by decide) (fun c_10 => ?_) (fun c_10 => ?_)
    · skip
      refine lv_iconst (v := 0) hx hb dX7_isUnder_17 (by decide) ?_
      exact W.zret hx hb hr (rfl) (fun t ht _ => ⟨rI (by first | (simp [c_2, c_10]; done) | (simp [c_2, c_10, (g0I_01 1 kd).resolve_left c_10]; done)), ht⟩) (fun q h => by cases h) dX7_isUnder_18
    · skip
      refine lv_iconst (v := 1) hx hb dX7_isUnder_13 (by decide) ?_
      refine lv_goto (tgt := 18) hx hb dX7_isUnder_14 (by decide) ?_
      exact W.zret hx hb hr (rfl) (fun t ht _ => ⟨rI (by first | (simp [c_2, c_10]; done) | (simp [c_2, c_10, (g0I_01 1 kd).resolve_left c_10]; done)), ht⟩) (fun q h => by cases h) dX7_isUnder_18
theorem k_X7_isUnder_6 {l : Launch} {D : va_G} {L : Nat → Nat} {A : Nat → Prop} (x : cst) (k : Nat) (hk : k < 8) (kd : Int32) : Met l yX7_isUnder (ws_ yX7_isUnder cX7_isUnder 2 (some .boolean)) ({ frames := 4, cells := 0, slots := 0, locals := 81 } : Room) (va_Pc [.ref (L (123 + (8 * 6 + k))), .int kd] (pI D (cfC D L x) A)) (rQ (.int (if kd = 1 then 1 else g0I 6 kd))) 0 0 nof := by
  refine met_I (by decide) rfl (Nat.le_of_ble_eq_true rfl) ?_
  intro p e s m below meth c ls hx hb hr hml hown hts hlocks hl hI hK
  have F : CallFix p m c cX7_isUnder 2 s _ lw_all RX7 := ⟨hx, hb, hml, hown, hts⟩
  have hl : lv_has ls 2 [(0, .ref (L (123 + (8 * 6 + k)))), (1, .int kd)] := hl
  refine lv_iload_n hx hb dX7_isUnder_0 rfl (lv_at hl 1 rfl) ?_
  refine lv_iconst (v := 1) hx hb dX7_isUnder_1 (by decide) ?_
  refine lv_icmp_eq (tgt := 13) hx hb dX7_isUnder_2 (by decide) (fun c_2 => ?_) (fun c_2 => ?_)
  · skip
    refine lv_iconst (v := 1) hx hb dX7_isUnder_13 (by decide) ?_
    refine lv_goto (tgt := 18) hx hb dX7_isUnder_14 (by decide) ?_
    exact W.zret hx hb hr (rfl) (fun t ht _ => ⟨rI (by first | (simp [c_2]; done) | (simp [c_2, (g0I_01 6 kd).resolve_left c_10]; done)), ht⟩) (fun q h => by cases h) dX7_isUnder_18
  · skip
    refine lv_aload_n hx hb dX7_isUnder_5 rfl (lv_at hl 0 rfl) ?_
    refine lv_iload_n hx hb dX7_isUnder_6 rfl (lv_at hl 1 rfl) ?_
    refine c_r (k_SUP (As := [.int kd]) (rest := []) (ci := 12) (q := (RX12, TX12, 4)) rfl F (k_X6_isUnder_6 x k hk kd) (va_cwSU 1 hts (lw_SU q1089 q1078 q325 q1076 q100 q1094) rfl rfl rfl (by decide +kernel) ⟨Nat.le_of_ble_eq_true rfl, Nat.le_of_ble_eq_true rfl⟩) hI hK (cf_gk (κ := 6) (by decide) hk) rfl hl.1 rfl (Nat.le_of_ble_eq_true rfl) dX7_isUnder_7 ⟨Nat.le_of_ble_eq_true rfl, Nat.le_of_ble_eq_true rfl⟩) ?_
    refine lv_if_eq (tgt := 17) hx hb dX7_isUnder_10 (by decide) (fun c_10 => ?_) (fun c_10 => ?_)
    · skip
      refine lv_iconst (v := 0) hx hb dX7_isUnder_17 (by decide) ?_
      exact W.zret hx hb hr (rfl) (fun t ht _ => ⟨rI (by first | (simp [c_2, c_10]; done) | (simp [c_2, c_10, (g0I_01 6 kd).resolve_left c_10]; done)), ht⟩) (fun q h => by cases h) dX7_isUnder_18
    · skip
      refine lv_iconst (v := 1) hx hb dX7_isUnder_13 (by decide) ?_
      refine lv_goto (tgt := 18) hx hb dX7_isUnder_14 (by decide) ?_
      exact W.zret hx hb hr (rfl) (fun t ht _ => ⟨rI (by first | (simp [c_2, c_10]; done) | (simp [c_2, c_10, (g0I_01 6 kd).resolve_left c_10]; done)), ht⟩) (fun q h => by cases h) dX7_isUnder_18
theorem k_X8_isUnder_2 {l : Launch} {D : va_G} {L : Nat → Nat} {A : Nat → Prop} (x : cst) (k : Nat) (hk : k < 8) (kd : Int32) : Met l yX8_isUnder (ws_ yX8_isUnder cX8_isUnder 2 (some .boolean)) ({ frames := 3, cells := 0, slots := 0, locals := 61 } : Room) (va_Pc [.ref (L (123 + (8 * 2 + k))), .int kd] (pI D (cfC D L x) A)) (rQ (.int (if kd = 2 then 1 else g0I 2 kd))) 0 0 nof := by
  refine met_I (by decide) rfl (Nat.le_of_ble_eq_true rfl) ?_
  intro p e s m below meth c ls hx hb hr hml hown hts hlocks hl hI hK
  have F : CallFix p m c cX8_isUnder 2 s _ lw_all RX8 := ⟨hx, hb, hml, hown, hts⟩
  have hl : lv_has ls 2 [(0, .ref (L (123 + (8 * 2 + k)))), (1, .int kd)] := hl
  refine lv_iload_n hx hb dX8_isUnder_0 rfl (lv_at hl 1 rfl) ?_
  refine lv_iconst (v := 2) hx hb dX8_isUnder_1 (by decide) ?_
  refine lv_icmp_eq (tgt := 13) hx hb dX8_isUnder_2 (by decide) (fun c_2 => ?_) (fun c_2 => ?_)
  · skip
    refine lv_iconst (v := 1) hx hb dX8_isUnder_13 (by decide) ?_
    refine lv_goto (tgt := 18) hx hb dX8_isUnder_14 (by decide) ?_
    exact W.zret hx hb hr (rfl) (fun t ht _ => ⟨rI (by first | (simp [c_2]; done) | (simp [c_2, (g0I_01 2 kd).resolve_left c_10]; done)), ht⟩) (fun q h => by cases h) dX8_isUnder_18
  · skip
    refine lv_aload_n hx hb dX8_isUnder_5 rfl (lv_at hl 0 rfl) ?_
    refine lv_iload_n hx hb dX8_isUnder_6 rfl (lv_at hl 1 rfl) ?_
    refine c_r (k_SUP (As := [.int kd]) (rest := []) (ci := 8) (q := (RX8, TX8, 3)) rfl F (k_X6_isUnder_2 x k hk kd) (va_cwSU 1 hts (lw_SU q1085 q1078 q337 q1076 q100 q1094) rfl rfl rfl (by decide +kernel) ⟨Nat.le_of_ble_eq_true rfl, Nat.le_of_ble_eq_true rfl⟩) hI hK (cf_gk (κ := 2) (by decide) hk) rfl hl.1 rfl (Nat.le_of_ble_eq_true rfl) dX8_isUnder_7 ⟨Nat.le_of_ble_eq_true rfl, Nat.le_of_ble_eq_true rfl⟩) ?_
    refine lv_if_eq (tgt := 17) hx hb dX8_isUnder_10 (by decide) (fun c_10 => ?_) (fun c_10 => ?_)
    · skip
      refine lv_iconst (v := 0) hx hb dX8_isUnder_17 (by decide) ?_
      exact W.zret hx hb hr (rfl) (fun t ht _ => ⟨rI (by first | (simp [c_2, c_10]; done) | (simp [c_2, c_10, (g0I_01 2 kd).resolve_left c_10]; done)), ht⟩) (fun q h => by cases h) dX8_isUnder_18
    · skip
      refine lv_iconst (v := 1) hx hb dX8_isUnder_13 (by decide) ?_
      refine lv_goto (tgt := 18) hx hb dX8_isUnder_14 (by decide) ?_
      exact W.zret hx hb hr (rfl) (fun t ht _ => ⟨rI (by first | (simp [c_2, c_10]; done) | (simp [c_2, c_10, (g0I_01 2 kd).resolve_left c_10]; done)), ht⟩) (fun q h => by cases h) dX8_isUnder_18
theorem k_X8_isUnder_3 {l : Launch} {D : va_G} {L : Nat → Nat} {A : Nat → Prop} (x : cst) (k : Nat) (hk : k < 8) (kd : Int32) : Met l yX8_isUnder (ws_ yX8_isUnder cX8_isUnder 2 (some .boolean)) ({ frames := 4, cells := 0, slots := 0, locals := 81 } : Room) (va_Pc [.ref (L (123 + (8 * 3 + k))), .int kd] (pI D (cfC D L x) A)) (rQ (.int (if kd = 2 then 1 else g0I 3 kd))) 0 0 nof := by
  refine met_I (by decide) rfl (Nat.le_of_ble_eq_true rfl) ?_
  intro p e s m below meth c ls hx hb hr hml hown hts hlocks hl hI hK
  have F : CallFix p m c cX8_isUnder 2 s _ lw_all RX8 := ⟨hx, hb, hml, hown, hts⟩
  have hl : lv_has ls 2 [(0, .ref (L (123 + (8 * 3 + k)))), (1, .int kd)] := hl
  refine lv_iload_n hx hb dX8_isUnder_0 rfl (lv_at hl 1 rfl) ?_
  refine lv_iconst (v := 2) hx hb dX8_isUnder_1 (by decide) ?_
  refine lv_icmp_eq (tgt := 13) hx hb dX8_isUnder_2 (by decide) (fun c_2 => ?_) (fun c_2 => ?_)
  · skip
    refine lv_iconst (v := 1) hx hb dX8_isUnder_13 (by decide) ?_
    refine lv_goto (tgt := 18) hx hb dX8_isUnder_14 (by decide) ?_
    exact W.zret hx hb hr (rfl) (fun t ht _ => ⟨rI (by first | (simp [c_2]; done) | (simp [c_2, (g0I_01 3 kd).resolve_left c_10]; done)), ht⟩) (fun q h => by cases h) dX8_isUnder_18
  · skip
    refine lv_aload_n hx hb dX8_isUnder_5 rfl (lv_at hl 0 rfl) ?_
    refine lv_iload_n hx hb dX8_isUnder_6 rfl (lv_at hl 1 rfl) ?_
    refine c_r (k_SUP (As := [.int kd]) (rest := []) (ci := 9) (q := (RX9, TX9, 4)) rfl F (k_X6_isUnder_3 x k hk kd) (va_cwSU 1 hts (lw_SU q1085 q1078 q337 q1076 q100 q1094) rfl rfl rfl (by decide +kernel) ⟨Nat.le_of_ble_eq_true rfl, Nat.le_of_ble_eq_true rfl⟩) hI hK (cf_gk (κ := 3) (by decide) hk) rfl hl.1 rfl (Nat.le_of_ble_eq_true rfl) dX8_isUnder_7 ⟨Nat.le_of_ble_eq_true rfl, Nat.le_of_ble_eq_true rfl⟩) ?_
    refine lv_if_eq (tgt := 17) hx hb dX8_isUnder_10 (by decide) (fun c_10 => ?_) (fun c_10 => ?_)
    · skip
      refine lv_iconst (v := 0) hx hb dX8_isUnder_17 (by decide) ?_
      exact W.zret hx hb hr (rfl) (fun t ht _ => ⟨rI (by first | (simp [c_2, c_10]; done) | (simp [c_2, c_10, (g0I_01 3 kd).resolve_left c_10]; done)), ht⟩) (fun q h => by cases h) dX8_isUnder_18
    · skip
      refine lv_iconst (v := 1) hx hb dX8_isUnder_13 (by decide) ?_
      refine lv_goto (tgt := 18) hx hb dX8_isUnder_14 (by decide) ?_
      exact W.zret hx hb hr (rfl) (fun t ht _ => ⟨rI (by first | (simp [c_2, c_10]; done) | (simp [c_2, c_10, (g0I_01 3 kd).resolve_left c_10]; done)), ht⟩) (fun q h => by cases h) dX8_isUnder_18
theorem k_X8_isUnder_4 {l : Launch} {D : va_G} {L : Nat → Nat} {A : Nat → Prop} (x : cst) (k : Nat) (hk : k < 8) (kd : Int32) : Met l yX8_isUnder (ws_ yX8_isUnder cX8_isUnder 2 (some .boolean)) ({ frames := 5, cells := 0, slots := 0, locals := 101 } : Room) (va_Pc [.ref (L (123 + (8 * 4 + k))), .int kd] (pI D (cfC D L x) A)) (rQ (.int (if kd = 2 then 1 else g0I 4 kd))) 0 0 nof := by
  refine met_I (by decide) rfl (Nat.le_of_ble_eq_true rfl) ?_
  intro p e s m below meth c ls hx hb hr hml hown hts hlocks hl hI hK
  have F : CallFix p m c cX8_isUnder 2 s _ lw_all RX8 := ⟨hx, hb, hml, hown, hts⟩
  have hl : lv_has ls 2 [(0, .ref (L (123 + (8 * 4 + k)))), (1, .int kd)] := hl
  refine lv_iload_n hx hb dX8_isUnder_0 rfl (lv_at hl 1 rfl) ?_
  refine lv_iconst (v := 2) hx hb dX8_isUnder_1 (by decide) ?_
  refine lv_icmp_eq (tgt := 13) hx hb dX8_isUnder_2 (by decide) (fun c_2 => ?_) (fun c_2 => ?_)
  · skip
    refine lv_iconst (v := 1) hx hb dX8_isUnder_13 (by decide) ?_
    refine lv_goto (tgt := 18) hx hb dX8_isUnder_14 (by decide) ?_
    exact W.zret hx hb hr (rfl) (fun t ht _ => ⟨rI (by first | (simp [c_2]; done) | (simp [c_2, (g0I_01 4 kd).resolve_left c_10]; done)), ht⟩) (fun q h => by cases h) dX8_isUnder_18
  · skip
    refine lv_aload_n hx hb dX8_isUnder_5 rfl (lv_at hl 0 rfl) ?_
    refine lv_iload_n hx hb dX8_isUnder_6 rfl (lv_at hl 1 rfl) ?_
    refine c_r (k_SUP (As := [.int kd]) (rest := []) (ci := 10) (q := (RX10, TX10, 5)) rfl F (k_X6_isUnder_4 x k hk kd) (va_cwSU 1 hts (lw_SU q1085 q1078 q337 q1076 q100 q1094) rfl rfl rfl (by decide +kernel) ⟨Nat.le_of_ble_eq_true rfl, Nat.le_of_ble_eq_true rfl⟩) hI hK (cf_gk (κ := 4) (by decide) hk) rfl hl.1 rfl (Nat.le_of_ble_eq_true rfl) dX8_isUnder_7 ⟨Nat.le_of_ble_eq_true rfl, Nat.le_of_ble_eq_true rfl⟩) ?_
    refine lv_if_eq (tgt := 17) hx hb dX8_isUnder_10 (by decide) (fun c_10 => ?_) (fun c_10 => ?_)
    · skip
      refine lv_iconst (v := 0) hx hb dX8_isUnder_17 (by decide) ?_
      exact W.zret hx hb hr (rfl) (fun t ht _ => ⟨rI (by first | (simp [c_2, c_10]; done) | (simp [c_2, c_10, (g0I_01 4 kd).resolve_left c_10]; done)), ht⟩) (fun q h => by cases h) dX8_isUnder_18
    · skip
      refine lv_iconst (v := 1) hx hb dX8_isUnder_13 (by decide) ?_
      refine lv_goto (tgt := 18) hx hb dX8_isUnder_14 (by decide) ?_
      exact W.zret hx hb hr (rfl) (fun t ht _ => ⟨rI (by first | (simp [c_2, c_10]; done) | (simp [c_2, c_10, (g0I_01 4 kd).resolve_left c_10]; done)), ht⟩) (fun q h => by cases h) dX8_isUnder_18
theorem k_X9_isUnder_3 {l : Launch} {D : va_G} {L : Nat → Nat} {A : Nat → Prop} (x : cst) (k : Nat) (hk : k < 8) (kd : Int32) : Met l yX9_isUnder (ws_ yX9_isUnder cX9_isUnder 2 (some .boolean)) ({ frames := 5, cells := 0, slots := 0, locals := 102 } : Room) (va_Pc [.ref (L (123 + (8 * 3 + k))), .int kd] (pI D (cfC D L x) A)) (rQ (.int (if kd = 3 then 1 else if kd = 2 then 1 else g0I 3 kd))) 0 0 nof := by
  refine met_I (by decide) rfl (Nat.le_of_ble_eq_true rfl) ?_
  intro p e s m below meth c ls hx hb hr hml hown hts hlocks hl hI hK
  have F : CallFix p m c cX9_isUnder 2 s _ lw_all RX9 := ⟨hx, hb, hml, hown, hts⟩
  have hl : lv_has ls 2 [(0, .ref (L (123 + (8 * 3 + k)))), (1, .int kd)] := hl
  refine lv_iload_n hx hb dX9_isUnder_0 rfl (lv_at hl 1 rfl) ?_
  refine lv_iconst (v := 3) hx hb dX9_isUnder_1 (by decide) ?_
  refine lv_icmp_eq (tgt := 13) hx hb dX9_isUnder_2 (by decide) (fun c_2 => ?_) (fun c_2 => ?_)
  · skip
    refine lv_iconst (v := 1) hx hb dX9_isUnder_13 (by decide) ?_
    refine lv_goto (tgt := 18) hx hb dX9_isUnder_14 (by decide) ?_
    exact W.zret hx hb hr (rfl) (fun t ht _ => ⟨rI (by first | (simp [c_2]; done) | (rw [if_neg c_2]; exact c_10.symm) | (rw [if_neg c_2]; exact ((ifg_01 _ _).resolve_left c_10).symm)), ht⟩) (fun q h => by cases h) dX9_isUnder_18
  · skip
    refine lv_aload_n hx hb dX9_isUnder_5 rfl (lv_at hl 0 rfl) ?_
    refine lv_iload_n hx hb dX9_isUnder_6 rfl (lv_at hl 1 rfl) ?_
    refine c_r (k_SUP (As := [.int kd]) (rest := []) (ci := 9) (q := (RX9, TX9, 4)) rfl F (k_X8_isUnder_3 x k hk kd) (va_cwSU 1 hts (lw_SU q1082 q1645 q350 q1083 q102 q1084) rfl rfl rfl (by decide +kernel) ⟨Nat.le_of_ble_eq_true rfl, Nat.le_of_ble_eq_true rfl⟩) hI hK (cf_gk (κ := 3) (by decide) hk) rfl hl.1 rfl (Nat.le_of_ble_eq_true rfl) dX9_isUnder_7 ⟨Nat.le_of_ble_eq_true rfl, Nat.le_of_ble_eq_true rfl⟩) ?_
    refine lv_if_eq (tgt := 17) hx hb dX9_isUnder_10 (by decide) (fun c_10 => ?_) (fun c_10 => ?_)
    · skip
      refine lv_iconst (v := 0) hx hb dX9_isUnder_17 (by decide) ?_
      exact W.zret hx hb hr (rfl) (fun t ht _ => ⟨rI (by first | (simp [c_2, c_10]; done) | (rw [if_neg c_2]; exact c_10.symm) | (rw [if_neg c_2]; exact ((ifg_01 _ _).resolve_left c_10).symm)), ht⟩) (fun q h => by cases h) dX9_isUnder_18
    · skip
      refine lv_iconst (v := 1) hx hb dX9_isUnder_13 (by decide) ?_
      refine lv_goto (tgt := 18) hx hb dX9_isUnder_14 (by decide) ?_
      exact W.zret hx hb hr (rfl) (fun t ht _ => ⟨rI (by first | (simp [c_2, c_10]; done) | (rw [if_neg c_2]; exact c_10.symm) | (rw [if_neg c_2]; exact ((ifg_01 _ _).resolve_left c_10).symm)), ht⟩) (fun q h => by cases h) dX9_isUnder_18
theorem k_X9_isUnder_4 {l : Launch} {D : va_G} {L : Nat → Nat} {A : Nat → Prop} (x : cst) (k : Nat) (hk : k < 8) (kd : Int32) : Met l yX9_isUnder (ws_ yX9_isUnder cX9_isUnder 2 (some .boolean)) ({ frames := 6, cells := 0, slots := 0, locals := 122 } : Room) (va_Pc [.ref (L (123 + (8 * 4 + k))), .int kd] (pI D (cfC D L x) A)) (rQ (.int (if kd = 3 then 1 else if kd = 2 then 1 else g0I 4 kd))) 0 0 nof := by
  refine met_I (by decide) rfl (Nat.le_of_ble_eq_true rfl) ?_
  intro p e s m below meth c ls hx hb hr hml hown hts hlocks hl hI hK
  have F : CallFix p m c cX9_isUnder 2 s _ lw_all RX9 := ⟨hx, hb, hml, hown, hts⟩
  have hl : lv_has ls 2 [(0, .ref (L (123 + (8 * 4 + k)))), (1, .int kd)] := hl
  refine lv_iload_n hx hb dX9_isUnder_0 rfl (lv_at hl 1 rfl) ?_
  refine lv_iconst (v := 3) hx hb dX9_isUnder_1 (by decide) ?_
  refine lv_icmp_eq (tgt := 13) hx hb dX9_isUnder_2 (by decide) (fun c_2 => ?_) (fun c_2 => ?_)
  · skip
    refine lv_iconst (v := 1) hx hb dX9_isUnder_13 (by decide) ?_
    refine lv_goto (tgt := 18) hx hb dX9_isUnder_14 (by decide) ?_
    exact W.zret hx hb hr (rfl) (fun t ht _ => ⟨rI (by first | (simp [c_2]; done) | (rw [if_neg c_2]; exact c_10.symm) | (rw [if_neg c_2]; exact ((ifg_01 _ _).resolve_left c_10).symm)), ht⟩) (fun q h => by cases h) dX9_isUnder_18
  · skip
    refine lv_aload_n hx hb dX9_isUnder_5 rfl (lv_at hl 0 rfl) ?_
    refine lv_iload_n hx hb dX9_isUnder_6 rfl (lv_at hl 1 rfl) ?_
    refine c_r (k_SUP (As := [.int kd]) (rest := []) (ci := 10) (q := (RX10, TX10, 5)) rfl F (k_X8_isUnder_4 x k hk kd) (va_cwSU 1 hts (lw_SU q1082 q1645 q350 q1083 q102 q1084) rfl rfl rfl (by decide +kernel) ⟨Nat.le_of_ble_eq_true rfl, Nat.le_of_ble_eq_true rfl⟩) hI hK (cf_gk (κ := 4) (by decide) hk) rfl hl.1 rfl (Nat.le_of_ble_eq_true rfl) dX9_isUnder_7 ⟨Nat.le_of_ble_eq_true rfl, Nat.le_of_ble_eq_true rfl⟩) ?_
    refine lv_if_eq (tgt := 17) hx hb dX9_isUnder_10 (by decide) (fun c_10 => ?_) (fun c_10 => ?_)
    · skip
      refine lv_iconst (v := 0) hx hb dX9_isUnder_17 (by decide) ?_
      exact W.zret hx hb hr (rfl) (fun t ht _ => ⟨rI (by first | (simp [c_2, c_10]; done) | (rw [if_neg c_2]; exact c_10.symm) | (rw [if_neg c_2]; exact ((ifg_01 _ _).resolve_left c_10).symm)), ht⟩) (fun q h => by cases h) dX9_isUnder_18
    · skip
      refine lv_iconst (v := 1) hx hb dX9_isUnder_13 (by decide) ?_
      refine lv_goto (tgt := 18) hx hb dX9_isUnder_14 (by decide) ?_
      exact W.zret hx hb hr (rfl) (fun t ht _ => ⟨rI (by first | (simp [c_2, c_10]; done) | (rw [if_neg c_2]; exact c_10.symm) | (rw [if_neg c_2]; exact ((ifg_01 _ _).resolve_left c_10).symm)), ht⟩) (fun q h => by cases h) dX9_isUnder_18
theorem k_X6_told_0 {l : Launch} {D : va_G} {L : Nat → Nat} {A : Nat → Prop} (x : cst) (k : Nat) (hk : k < 8) (r : Nat) (hr : r < 7) : Met l yX6_told (ws_ yX6_told cX6_told 2 (some .int)) ({ frames := 0, cells := 0, slots := 0, locals := 0 } : Room) (va_Pc [.ref (L (123 + (8 * 0 + k))), .int (nI r)] (pI D (cfC D L x) A)) (rQ (.int (x.1 0 (2 + r) k))) 0 0 nof := by
  refine met_I (by decide) rfl (Nat.le_of_ble_eq_true rfl) ?_
  intro p e s m below meth c ls hx hb hr hml hown hts hlocks hl hI hK
  have F : CallFix p m c cX6_told 2 s _ lw_all RX6 := ⟨hx, hb, hml, hown, hts⟩
  have hl : lv_has ls 2 [(0, .ref (L (123 + (8 * 0 + k)))), (1, .int (nI r))] := hl
  refine lv_aload_n hx hb dX6_told_0 rfl (lv_at hl 0 rfl) ?_
  refine r_get (C := RX6) (T := TX6) (N := 2) hx hb hts in_X6 hown hK hI (cf_gk (κ := 0) (by decide) hk) rfl 1 (by decide) (hts _ q318) (fun _ h => h) rfl dX6_told_1 ?_
  refine r_getN (C := RX0) (T := TX0) (N := 11) hx hb hts in_X0 hown hK hI (cf_main) rfl 3 (by decide) (nf_18 hK) (fun _ h => h) rfl dX6_told_4 ?_
  refine r_getN (C := RX4) (T := TX4) (N := 7) hx hb hts in_X4 hown hK hI (cf_W (w := 0) (by decide)) rfl 2 (by decide) (nf_5 hK) (fun _ h => h) rfl dX6_told_7 ?_
  refine lv_iload_n hx hb dX6_told_10 rfl (lv_at hl 1 rfl) ?_
  refine n_aaldI (f := fun r => L (11 * 0 + 3 + r)) (k := r) hx hb hK hI (cf_glove (w := 0) (by decide)) (rfl) (by omega) (by decide) dX6_told_11 ?_
  refine lv_aload_n hx hb dX6_told_12 rfl (lv_at hl 0 rfl) ?_
  refine r_get (C := RX6) (T := TX6) (N := 2) hx hb hts in_X6 hown hK hI (cf_gk (κ := 0) (by decide) hk) rfl 0 (by decide) (hts _ q314) (fun _ h => h) rfl dX6_told_13 ?_
  refine n_iald (k := k) hx hb hK hI (cf_row (w := 0) (r := r) (by decide) (by omega)) (rfl) (by omega) (by decide) dX6_told_16 ?_
  exact W.iret hx hb hr (fun t ht _ => ⟨rI (rfl), ht⟩) (fun q h => by cases h) dX6_told_17
theorem k_X6_told_1 {l : Launch} {D : va_G} {L : Nat → Nat} {A : Nat → Prop} (x : cst) (k : Nat) (hk : k < 8) (r : Nat) (hr : r < 7) : Met l yX6_told (ws_ yX6_told cX6_told 2 (some .int)) ({ frames := 0, cells := 0, slots := 0, locals := 0 } : Room) (va_Pc [.ref (L (123 + (8 * 1 + k))), .int (nI r)] (pI D (cfC D L x) A)) (rQ (.int (x.1 0 (2 + r) k))) 0 0 nof := by
  refine met_I (by decide) rfl (Nat.le_of_ble_eq_true rfl) ?_
  intro p e s m below meth c ls hx hb hr hml hown hts hlocks hl hI hK
  have F : CallFix p m c cX6_told 2 s _ lw_all RX6 := ⟨hx, hb, hml, hown, hts⟩
  have hl : lv_has ls 2 [(0, .ref (L (123 + (8 * 1 + k)))), (1, .int (nI r))] := hl
  refine lv_aload_n hx hb dX6_told_0 rfl (lv_at hl 0 rfl) ?_
  refine r_get (C := RX7) (T := TX7) (N := 3) hx hb hts in_X7 hown hK hI (cf_gk (κ := 1) (by decide) hk) rfl 1 (by decide) (hts _ q318) (fun _ h => h) rfl dX6_told_1 ?_
  refine r_getN (C := RX0) (T := TX0) (N := 11) hx hb hts in_X0 hown hK hI (cf_main) rfl 3 (by decide) (nf_18 hK) (fun _ h => h) rfl dX6_told_4 ?_
  refine r_getN (C := RX4) (T := TX4) (N := 7) hx hb hts in_X4 hown hK hI (cf_W (w := 0) (by decide)) rfl 2 (by decide) (nf_5 hK) (fun _ h => h) rfl dX6_told_7 ?_
  refine lv_iload_n hx hb dX6_told_10 rfl (lv_at hl 1 rfl) ?_
  refine n_aaldI (f := fun r => L (11 * 0 + 3 + r)) (k := r) hx hb hK hI (cf_glove (w := 0) (by decide)) (rfl) (by omega) (by decide) dX6_told_11 ?_
  refine lv_aload_n hx hb dX6_told_12 rfl (lv_at hl 0 rfl) ?_
  refine r_get (C := RX7) (T := TX7) (N := 3) hx hb hts in_X7 hown hK hI (cf_gk (κ := 1) (by decide) hk) rfl 0 (by decide) (hts _ q314) (fun _ h => h) rfl dX6_told_13 ?_
  refine n_iald (k := k) hx hb hK hI (cf_row (w := 0) (r := r) (by decide) (by omega)) (rfl) (by omega) (by decide) dX6_told_16 ?_
  exact W.iret hx hb hr (fun t ht _ => ⟨rI (rfl), ht⟩) (fun q h => by cases h) dX6_told_17
theorem k_X6_told_2 {l : Launch} {D : va_G} {L : Nat → Nat} {A : Nat → Prop} (x : cst) (k : Nat) (hk : k < 8) (r : Nat) (hr : r < 7) : Met l yX6_told (ws_ yX6_told cX6_told 2 (some .int)) ({ frames := 0, cells := 0, slots := 0, locals := 0 } : Room) (va_Pc [.ref (L (123 + (8 * 2 + k))), .int (nI r)] (pI D (cfC D L x) A)) (rQ (.int (x.1 0 (2 + r) k))) 0 0 nof := by
  refine met_I (by decide) rfl (Nat.le_of_ble_eq_true rfl) ?_
  intro p e s m below meth c ls hx hb hr hml hown hts hlocks hl hI hK
  have F : CallFix p m c cX6_told 2 s _ lw_all RX6 := ⟨hx, hb, hml, hown, hts⟩
  have hl : lv_has ls 2 [(0, .ref (L (123 + (8 * 2 + k)))), (1, .int (nI r))] := hl
  refine lv_aload_n hx hb dX6_told_0 rfl (lv_at hl 0 rfl) ?_
  refine r_get (C := RX8) (T := TX8) (N := 3) hx hb hts in_X8 hown hK hI (cf_gk (κ := 2) (by decide) hk) rfl 1 (by decide) (hts _ q318) (fun _ h => h) rfl dX6_told_1 ?_
  refine r_getN (C := RX0) (T := TX0) (N := 11) hx hb hts in_X0 hown hK hI (cf_main) rfl 3 (by decide) (nf_18 hK) (fun _ h => h) rfl dX6_told_4 ?_
  refine r_getN (C := RX4) (T := TX4) (N := 7) hx hb hts in_X4 hown hK hI (cf_W (w := 0) (by decide)) rfl 2 (by decide) (nf_5 hK) (fun _ h => h) rfl dX6_told_7 ?_
  refine lv_iload_n hx hb dX6_told_10 rfl (lv_at hl 1 rfl) ?_
  refine n_aaldI (f := fun r => L (11 * 0 + 3 + r)) (k := r) hx hb hK hI (cf_glove (w := 0) (by decide)) (rfl) (by omega) (by decide) dX6_told_11 ?_
  refine lv_aload_n hx hb dX6_told_12 rfl (lv_at hl 0 rfl) ?_
  refine r_get (C := RX8) (T := TX8) (N := 3) hx hb hts in_X8 hown hK hI (cf_gk (κ := 2) (by decide) hk) rfl 0 (by decide) (hts _ q314) (fun _ h => h) rfl dX6_told_13 ?_
  refine n_iald (k := k) hx hb hK hI (cf_row (w := 0) (r := r) (by decide) (by omega)) (rfl) (by omega) (by decide) dX6_told_16 ?_
  exact W.iret hx hb hr (fun t ht _ => ⟨rI (rfl), ht⟩) (fun q h => by cases h) dX6_told_17
theorem k_X6_told_3 {l : Launch} {D : va_G} {L : Nat → Nat} {A : Nat → Prop} (x : cst) (k : Nat) (hk : k < 8) (r : Nat) (hr : r < 7) : Met l yX6_told (ws_ yX6_told cX6_told 2 (some .int)) ({ frames := 0, cells := 0, slots := 0, locals := 0 } : Room) (va_Pc [.ref (L (123 + (8 * 3 + k))), .int (nI r)] (pI D (cfC D L x) A)) (rQ (.int (x.1 0 (2 + r) k))) 0 0 nof := by
  refine met_I (by decide) rfl (Nat.le_of_ble_eq_true rfl) ?_
  intro p e s m below meth c ls hx hb hr hml hown hts hlocks hl hI hK
  have F : CallFix p m c cX6_told 2 s _ lw_all RX6 := ⟨hx, hb, hml, hown, hts⟩
  have hl : lv_has ls 2 [(0, .ref (L (123 + (8 * 3 + k)))), (1, .int (nI r))] := hl
  refine lv_aload_n hx hb dX6_told_0 rfl (lv_at hl 0 rfl) ?_
  refine r_get (C := RX9) (T := TX9) (N := 4) hx hb hts in_X9 hown hK hI (cf_gk (κ := 3) (by decide) hk) rfl 1 (by decide) (hts _ q318) (fun _ h => h) rfl dX6_told_1 ?_
  refine r_getN (C := RX0) (T := TX0) (N := 11) hx hb hts in_X0 hown hK hI (cf_main) rfl 3 (by decide) (nf_18 hK) (fun _ h => h) rfl dX6_told_4 ?_
  refine r_getN (C := RX4) (T := TX4) (N := 7) hx hb hts in_X4 hown hK hI (cf_W (w := 0) (by decide)) rfl 2 (by decide) (nf_5 hK) (fun _ h => h) rfl dX6_told_7 ?_
  refine lv_iload_n hx hb dX6_told_10 rfl (lv_at hl 1 rfl) ?_
  refine n_aaldI (f := fun r => L (11 * 0 + 3 + r)) (k := r) hx hb hK hI (cf_glove (w := 0) (by decide)) (rfl) (by omega) (by decide) dX6_told_11 ?_
  refine lv_aload_n hx hb dX6_told_12 rfl (lv_at hl 0 rfl) ?_
  refine r_get (C := RX9) (T := TX9) (N := 4) hx hb hts in_X9 hown hK hI (cf_gk (κ := 3) (by decide) hk) rfl 0 (by decide) (hts _ q314) (fun _ h => h) rfl dX6_told_13 ?_
  refine n_iald (k := k) hx hb hK hI (cf_row (w := 0) (r := r) (by decide) (by omega)) (rfl) (by omega) (by decide) dX6_told_16 ?_
  exact W.iret hx hb hr (fun t ht _ => ⟨rI (rfl), ht⟩) (fun q h => by cases h) dX6_told_17
theorem k_X6_told_4 {l : Launch} {D : va_G} {L : Nat → Nat} {A : Nat → Prop} (x : cst) (k : Nat) (hk : k < 8) (r : Nat) (hr : r < 7) : Met l yX6_told (ws_ yX6_told cX6_told 2 (some .int)) ({ frames := 0, cells := 0, slots := 0, locals := 0 } : Room) (va_Pc [.ref (L (123 + (8 * 4 + k))), .int (nI r)] (pI D (cfC D L x) A)) (rQ (.int (x.1 0 (2 + r) k))) 0 0 nof := by
  refine met_I (by decide) rfl (Nat.le_of_ble_eq_true rfl) ?_
  intro p e s m below meth c ls hx hb hr hml hown hts hlocks hl hI hK
  have F : CallFix p m c cX6_told 2 s _ lw_all RX6 := ⟨hx, hb, hml, hown, hts⟩
  have hl : lv_has ls 2 [(0, .ref (L (123 + (8 * 4 + k)))), (1, .int (nI r))] := hl
  refine lv_aload_n hx hb dX6_told_0 rfl (lv_at hl 0 rfl) ?_
  refine r_get (C := RX10) (T := TX10) (N := 5) hx hb hts in_X10 hown hK hI (cf_gk (κ := 4) (by decide) hk) rfl 1 (by decide) (hts _ q318) (fun _ h => h) rfl dX6_told_1 ?_
  refine r_getN (C := RX0) (T := TX0) (N := 11) hx hb hts in_X0 hown hK hI (cf_main) rfl 3 (by decide) (nf_18 hK) (fun _ h => h) rfl dX6_told_4 ?_
  refine r_getN (C := RX4) (T := TX4) (N := 7) hx hb hts in_X4 hown hK hI (cf_W (w := 0) (by decide)) rfl 2 (by decide) (nf_5 hK) (fun _ h => h) rfl dX6_told_7 ?_
  refine lv_iload_n hx hb dX6_told_10 rfl (lv_at hl 1 rfl) ?_
  refine n_aaldI (f := fun r => L (11 * 0 + 3 + r)) (k := r) hx hb hK hI (cf_glove (w := 0) (by decide)) (rfl) (by omega) (by decide) dX6_told_11 ?_
  refine lv_aload_n hx hb dX6_told_12 rfl (lv_at hl 0 rfl) ?_
  refine r_get (C := RX10) (T := TX10) (N := 5) hx hb hts in_X10 hown hK hI (cf_gk (κ := 4) (by decide) hk) rfl 0 (by decide) (hts _ q314) (fun _ h => h) rfl dX6_told_13 ?_
  refine n_iald (k := k) hx hb hK hI (cf_row (w := 0) (r := r) (by decide) (by omega)) (rfl) (by omega) (by decide) dX6_told_16 ?_
  exact W.iret hx hb hr (fun t ht _ => ⟨rI (rfl), ht⟩) (fun q h => by cases h) dX6_told_17
theorem k_X6_told_5 {l : Launch} {D : va_G} {L : Nat → Nat} {A : Nat → Prop} (x : cst) (k : Nat) (hk : k < 8) (r : Nat) (hr : r < 7) : Met l yX6_told (ws_ yX6_told cX6_told 2 (some .int)) ({ frames := 0, cells := 0, slots := 0, locals := 0 } : Room) (va_Pc [.ref (L (123 + (8 * 5 + k))), .int (nI r)] (pI D (cfC D L x) A)) (rQ (.int (x.1 0 (2 + r) k))) 0 0 nof := by
  refine met_I (by decide) rfl (Nat.le_of_ble_eq_true rfl) ?_
  intro p e s m below meth c ls hx hb hr hml hown hts hlocks hl hI hK
  have F : CallFix p m c cX6_told 2 s _ lw_all RX6 := ⟨hx, hb, hml, hown, hts⟩
  have hl : lv_has ls 2 [(0, .ref (L (123 + (8 * 5 + k)))), (1, .int (nI r))] := hl
  refine lv_aload_n hx hb dX6_told_0 rfl (lv_at hl 0 rfl) ?_
  refine r_get (C := RX11) (T := TX11) (N := 3) hx hb hts in_X11 hown hK hI (cf_gk (κ := 5) (by decide) hk) rfl 1 (by decide) (hts _ q318) (fun _ h => h) rfl dX6_told_1 ?_
  refine r_getN (C := RX0) (T := TX0) (N := 11) hx hb hts in_X0 hown hK hI (cf_main) rfl 3 (by decide) (nf_18 hK) (fun _ h => h) rfl dX6_told_4 ?_
  refine r_getN (C := RX4) (T := TX4) (N := 7) hx hb hts in_X4 hown hK hI (cf_W (w := 0) (by decide)) rfl 2 (by decide) (nf_5 hK) (fun _ h => h) rfl dX6_told_7 ?_
  refine lv_iload_n hx hb dX6_told_10 rfl (lv_at hl 1 rfl) ?_
  refine n_aaldI (f := fun r => L (11 * 0 + 3 + r)) (k := r) hx hb hK hI (cf_glove (w := 0) (by decide)) (rfl) (by omega) (by decide) dX6_told_11 ?_
  refine lv_aload_n hx hb dX6_told_12 rfl (lv_at hl 0 rfl) ?_
  refine r_get (C := RX11) (T := TX11) (N := 3) hx hb hts in_X11 hown hK hI (cf_gk (κ := 5) (by decide) hk) rfl 0 (by decide) (hts _ q314) (fun _ h => h) rfl dX6_told_13 ?_
  refine n_iald (k := k) hx hb hK hI (cf_row (w := 0) (r := r) (by decide) (by omega)) (rfl) (by omega) (by decide) dX6_told_16 ?_
  exact W.iret hx hb hr (fun t ht _ => ⟨rI (rfl), ht⟩) (fun q h => by cases h) dX6_told_17
theorem k_X6_told_6 {l : Launch} {D : va_G} {L : Nat → Nat} {A : Nat → Prop} (x : cst) (k : Nat) (hk : k < 8) (r : Nat) (hr : r < 7) : Met l yX6_told (ws_ yX6_told cX6_told 2 (some .int)) ({ frames := 0, cells := 0, slots := 0, locals := 0 } : Room) (va_Pc [.ref (L (123 + (8 * 6 + k))), .int (nI r)] (pI D (cfC D L x) A)) (rQ (.int (x.1 0 (2 + r) k))) 0 0 nof := by
  refine met_I (by decide) rfl (Nat.le_of_ble_eq_true rfl) ?_
  intro p e s m below meth c ls hx hb hr hml hown hts hlocks hl hI hK
  have F : CallFix p m c cX6_told 2 s _ lw_all RX6 := ⟨hx, hb, hml, hown, hts⟩
  have hl : lv_has ls 2 [(0, .ref (L (123 + (8 * 6 + k)))), (1, .int (nI r))] := hl
  refine lv_aload_n hx hb dX6_told_0 rfl (lv_at hl 0 rfl) ?_
  refine r_get (C := RX12) (T := TX12) (N := 4) hx hb hts in_X12 hown hK hI (cf_gk (κ := 6) (by decide) hk) rfl 1 (by decide) (hts _ q318) (fun _ h => h) rfl dX6_told_1 ?_
  refine r_getN (C := RX0) (T := TX0) (N := 11) hx hb hts in_X0 hown hK hI (cf_main) rfl 3 (by decide) (nf_18 hK) (fun _ h => h) rfl dX6_told_4 ?_
  refine r_getN (C := RX4) (T := TX4) (N := 7) hx hb hts in_X4 hown hK hI (cf_W (w := 0) (by decide)) rfl 2 (by decide) (nf_5 hK) (fun _ h => h) rfl dX6_told_7 ?_
  refine lv_iload_n hx hb dX6_told_10 rfl (lv_at hl 1 rfl) ?_
  refine n_aaldI (f := fun r => L (11 * 0 + 3 + r)) (k := r) hx hb hK hI (cf_glove (w := 0) (by decide)) (rfl) (by omega) (by decide) dX6_told_11 ?_
  refine lv_aload_n hx hb dX6_told_12 rfl (lv_at hl 0 rfl) ?_
  refine r_get (C := RX12) (T := TX12) (N := 4) hx hb hts in_X12 hown hK hI (cf_gk (κ := 6) (by decide) hk) rfl 0 (by decide) (hts _ q314) (fun _ h => h) rfl dX6_told_13 ?_
  refine n_iald (k := k) hx hb hK hI (cf_row (w := 0) (r := r) (by decide) (by omega)) (rfl) (by omega) (by decide) dX6_told_16 ?_
  exact W.iret hx hb hr (fun t ht _ => ⟨rI (rfl), ht⟩) (fun q h => by cases h) dX6_told_17
theorem k_X6_needs_0 {l : Launch} {D : va_G} {L : Nat → Nat} {A : Nat → Prop} (x : cst) (k : Nat) (hk : k < 8) : Met l yX6_needs (ws_ yX6_needs cX6_needs 1 (some .int)) ({ frames := 1, cells := 0, slots := 0, locals := 21 } : Room) (va_Pc [.ref (L (123 + (8 * 0 + k)))] (pI D (cfC D L x) A)) (rQ (.int (10 - x.1 0 (2 + 2) k))) 0 0 nof := by
  refine met_I (by decide) rfl (Nat.le_of_ble_eq_true rfl) ?_
  intro p e s m below meth c ls hx hb hr hml hown hts hlocks hl hI hK
  have F : CallFix p m c cX6_needs 1 s _ lw_all RX6 := ⟨hx, hb, hml, hown, hts⟩
  have hl : lv_has ls 1 [(0, .ref (L (123 + (8 * 0 + k))))] := hl
  refine lv_bipush (v := 10) hx hb dX6_needs_0 (by decide) ?_
  refine lv_aload_n hx hb dX6_needs_2 rfl (lv_at hl 0 rfl) ?_
  refine lv_iconst (v := 2) hx hb dX6_needs_3 (by decide) ?_
  refine c_r (k_V (As := [.int 2]) (rest := [.int 10]) F (k_X6_told_0 x k hk 2 (by decide)) (cwV 1 hts (lw_V q611 q515 q1639 q100 q516) rfl rfl rfl (by decide +kernel) ⟨Nat.le_of_ble_eq_true rfl, Nat.le_of_ble_eq_true rfl⟩) hI hK (hw.recv hI hK (cf_gk (κ := 0) (by decide) hk) (q := (RX6, TX6, 2)) rfl) rfl hl.1 rfl (Nat.le_of_ble_eq_true rfl) dX6_needs_4 ⟨Nat.le_of_ble_eq_true rfl, Nat.le_of_ble_eq_true rfl⟩) ?_
  refine lv_isub hx hb dX6_needs_7 ?_
  exact W.iret hx hb hr (fun t ht _ => ⟨rI (rfl), ht⟩) (fun q h => by cases h) dX6_needs_8
theorem k_X6_needs_1 {l : Launch} {D : va_G} {L : Nat → Nat} {A : Nat → Prop} (x : cst) (k : Nat) (hk : k < 8) : Met l yX6_needs (ws_ yX6_needs cX6_needs 1 (some .int)) ({ frames := 1, cells := 0, slots := 0, locals := 21 } : Room) (va_Pc [.ref (L (123 + (8 * 1 + k)))] (pI D (cfC D L x) A)) (rQ (.int (10 - x.1 0 (2 + 2) k))) 0 0 nof := by
  refine met_I (by decide) rfl (Nat.le_of_ble_eq_true rfl) ?_
  intro p e s m below meth c ls hx hb hr hml hown hts hlocks hl hI hK
  have F : CallFix p m c cX6_needs 1 s _ lw_all RX6 := ⟨hx, hb, hml, hown, hts⟩
  have hl : lv_has ls 1 [(0, .ref (L (123 + (8 * 1 + k))))] := hl
  refine lv_bipush (v := 10) hx hb dX6_needs_0 (by decide) ?_
  refine lv_aload_n hx hb dX6_needs_2 rfl (lv_at hl 0 rfl) ?_
  refine lv_iconst (v := 2) hx hb dX6_needs_3 (by decide) ?_
  refine c_r (k_U (As := [.int 2]) (rest := [.int 10]) F (k_X6_told_1 x k hk 2 (by decide)) (va_cwU (owner := "LeftGloves$Glove") 1 hts (lw_U q611 q1636 q1640 q515 q100 q516) rfl rfl rfl rfl (by decide +kernel) ⟨Nat.le_of_ble_eq_true rfl, Nat.le_of_ble_eq_true rfl⟩) hI hK (hw.recv hI hK (cf_gk (κ := 1) (by decide) hk) (q := (RX7, TX7, 3)) rfl) rfl hl.1 rfl (Nat.le_of_ble_eq_true rfl) dX6_needs_4 ⟨Nat.le_of_ble_eq_true rfl, Nat.le_of_ble_eq_true rfl⟩) ?_
  refine lv_isub hx hb dX6_needs_7 ?_
  exact W.iret hx hb hr (fun t ht _ => ⟨rI (rfl), ht⟩) (fun q h => by cases h) dX6_needs_8
theorem k_X6_needs_2 {l : Launch} {D : va_G} {L : Nat → Nat} {A : Nat → Prop} (x : cst) (k : Nat) (hk : k < 8) : Met l yX6_needs (ws_ yX6_needs cX6_needs 1 (some .int)) ({ frames := 1, cells := 0, slots := 0, locals := 21 } : Room) (va_Pc [.ref (L (123 + (8 * 2 + k)))] (pI D (cfC D L x) A)) (rQ (.int (10 - x.1 0 (2 + 2) k))) 0 0 nof := by
  refine met_I (by decide) rfl (Nat.le_of_ble_eq_true rfl) ?_
  intro p e s m below meth c ls hx hb hr hml hown hts hlocks hl hI hK
  have F : CallFix p m c cX6_needs 1 s _ lw_all RX6 := ⟨hx, hb, hml, hown, hts⟩
  have hl : lv_has ls 1 [(0, .ref (L (123 + (8 * 2 + k))))] := hl
  refine lv_bipush (v := 10) hx hb dX6_needs_0 (by decide) ?_
  refine lv_aload_n hx hb dX6_needs_2 rfl (lv_at hl 0 rfl) ?_
  refine lv_iconst (v := 2) hx hb dX6_needs_3 (by decide) ?_
  refine c_r (k_U (As := [.int 2]) (rest := [.int 10]) F (k_X6_told_2 x k hk 2 (by decide)) (va_cwU (owner := "LeftGloves$Glove") 1 hts (lw_U q611 q1636 q1642 q515 q100 q516) rfl rfl rfl rfl (by decide +kernel) ⟨Nat.le_of_ble_eq_true rfl, Nat.le_of_ble_eq_true rfl⟩) hI hK (hw.recv hI hK (cf_gk (κ := 2) (by decide) hk) (q := (RX8, TX8, 3)) rfl) rfl hl.1 rfl (Nat.le_of_ble_eq_true rfl) dX6_needs_4 ⟨Nat.le_of_ble_eq_true rfl, Nat.le_of_ble_eq_true rfl⟩) ?_
  refine lv_isub hx hb dX6_needs_7 ?_
  exact W.iret hx hb hr (fun t ht _ => ⟨rI (rfl), ht⟩) (fun q h => by cases h) dX6_needs_8
theorem k_X6_needs_3 {l : Launch} {D : va_G} {L : Nat → Nat} {A : Nat → Prop} (x : cst) (k : Nat) (hk : k < 8) : Met l yX6_needs (ws_ yX6_needs cX6_needs 1 (some .int)) ({ frames := 1, cells := 0, slots := 0, locals := 21 } : Room) (va_Pc [.ref (L (123 + (8 * 3 + k)))] (pI D (cfC D L x) A)) (rQ (.int (10 - x.1 0 (2 + 2) k))) 0 0 nof := by
  refine met_I (by decide) rfl (Nat.le_of_ble_eq_true rfl) ?_
  intro p e s m below meth c ls hx hb hr hml hown hts hlocks hl hI hK
  have F : CallFix p m c cX6_needs 1 s _ lw_all RX6 := ⟨hx, hb, hml, hown, hts⟩
  have hl : lv_has ls 1 [(0, .ref (L (123 + (8 * 3 + k))))] := hl
  refine lv_bipush (v := 10) hx hb dX6_needs_0 (by decide) ?_
  refine lv_aload_n hx hb dX6_needs_2 rfl (lv_at hl 0 rfl) ?_
  refine lv_iconst (v := 2) hx hb dX6_needs_3 (by decide) ?_
  refine c_r (k_U (As := [.int 2]) (rest := [.int 10]) F (k_X6_told_3 x k hk 2 (by decide)) (va_cwU (owner := "LeftGloves$Glove") 1 hts (lw_U q611 q1636 q1641 q515 q100 q516) rfl rfl rfl rfl (by decide +kernel) ⟨Nat.le_of_ble_eq_true rfl, Nat.le_of_ble_eq_true rfl⟩) hI hK (hw.recv hI hK (cf_gk (κ := 3) (by decide) hk) (q := (RX9, TX9, 4)) rfl) rfl hl.1 rfl (Nat.le_of_ble_eq_true rfl) dX6_needs_4 ⟨Nat.le_of_ble_eq_true rfl, Nat.le_of_ble_eq_true rfl⟩) ?_
  refine lv_isub hx hb dX6_needs_7 ?_
  exact W.iret hx hb hr (fun t ht _ => ⟨rI (rfl), ht⟩) (fun q h => by cases h) dX6_needs_8
theorem k_X6_needs_6 {l : Launch} {D : va_G} {L : Nat → Nat} {A : Nat → Prop} (x : cst) (k : Nat) (hk : k < 8) : Met l yX6_needs (ws_ yX6_needs cX6_needs 1 (some .int)) ({ frames := 1, cells := 0, slots := 0, locals := 21 } : Room) (va_Pc [.ref (L (123 + (8 * 6 + k)))] (pI D (cfC D L x) A)) (rQ (.int (10 - x.1 0 (2 + 2) k))) 0 0 nof := by
  refine met_I (by decide) rfl (Nat.le_of_ble_eq_true rfl) ?_
  intro p e s m below meth c ls hx hb hr hml hown hts hlocks hl hI hK
  have F : CallFix p m c cX6_needs 1 s _ lw_all RX6 := ⟨hx, hb, hml, hown, hts⟩
  have hl : lv_has ls 1 [(0, .ref (L (123 + (8 * 6 + k))))] := hl
  refine lv_bipush (v := 10) hx hb dX6_needs_0 (by decide) ?_
  refine lv_aload_n hx hb dX6_needs_2 rfl (lv_at hl 0 rfl) ?_
  refine lv_iconst (v := 2) hx hb dX6_needs_3 (by decide) ?_
  refine c_r (k_U (As := [.int 2]) (rest := [.int 10]) F (k_X6_told_6 x k hk 2 (by decide)) (va_cwU (owner := "LeftGloves$Glove") 1 hts (lw_U q611 q1636 q1638 q515 q100 q516) rfl rfl rfl rfl (by decide +kernel) ⟨Nat.le_of_ble_eq_true rfl, Nat.le_of_ble_eq_true rfl⟩) hI hK (hw.recv hI hK (cf_gk (κ := 6) (by decide) hk) (q := (RX12, TX12, 4)) rfl) rfl hl.1 rfl (Nat.le_of_ble_eq_true rfl) dX6_needs_4 ⟨Nat.le_of_ble_eq_true rfl, Nat.le_of_ble_eq_true rfl⟩) ?_
  refine lv_isub hx hb dX6_needs_7 ?_
  exact W.iret hx hb hr (fun t ht _ => ⟨rI (rfl), ht⟩) (fun q h => by cases h) dX6_needs_8
theorem k_X7_needs_1 {l : Launch} {D : va_G} {L : Nat → Nat} {A : Nat → Prop} (x : cst) (k : Nat) (hk : k < 8) : Met l yX7_needs (ws_ yX7_needs cX7_needs 1 (some .int)) ({ frames := 2, cells := 0, slots := 0, locals := 41 } : Room) (va_Pc [.ref (L (123 + (8 * 1 + k)))] (pI D (cfC D L x) A)) (rQ (.int (ks_nd (x.1 0) k))) 0 0 nof := by
  refine met_I (by decide) rfl (Nat.le_of_ble_eq_true rfl) ?_
  intro p e s m below meth c ls hx hb hr hml hown hts hlocks hl hI hK
  have F : CallFix p m c cX7_needs 1 s _ lw_all RX7 := ⟨hx, hb, hml, hown, hts⟩
  have hl : lv_has ls 1 [(0, .ref (L (123 + (8 * 1 + k))))] := hl
  refine lv_iconst (v := 0) hx hb dX7_needs_0 (by decide) ?_
  refine lv_aload_n hx hb dX7_needs_1 rfl (lv_at hl 0 rfl) ?_
  refine c_r (k_SUP (As := []) (rest := [.int 0]) (ci := 7) (q := (RX7, TX7, 3)) rfl F (k_X6_needs_1 x k hk) (va_cwSU 0 hts (lw_SU q593 q579 q325 q577 q100 q610) rfl rfl rfl (by decide +kernel) ⟨Nat.le_of_ble_eq_true rfl, Nat.le_of_ble_eq_true rfl⟩) hI hK (cf_gk (κ := 1) (by decide) hk) rfl hl.1 rfl (Nat.le_of_ble_eq_true rfl) dX7_needs_2 ⟨Nat.le_of_ble_eq_true rfl, Nat.le_of_ble_eq_true rfl⟩) ?_
  refine lv_iconst (v := 2) hx hb dX7_needs_5 (by decide) ?_
  refine lv_isub hx hb dX7_needs_6 ?_
  refine va_mmax hx hb (by rw [hml]; exact hl.1.symm) hown (hts _ q594) (hts _ q595) (hts _ q108) (hts _ q596) (Nat.le_of_ble_eq_true rfl) (Nat.le_of_ble_eq_true rfl) (Nat.le_of_ble_eq_true rfl) (Nat.le_of_ble_eq_true rfl) dX7_needs_7 ?_
  exact W.iret hx hb hr (fun t ht _ => ⟨rI (rfl), ht⟩) (fun q h => by cases h) dX7_needs_10
theorem k_X7_needs_6 {l : Launch} {D : va_G} {L : Nat → Nat} {A : Nat → Prop} (x : cst) (k : Nat) (hk : k < 8) : Met l yX7_needs (ws_ yX7_needs cX7_needs 1 (some .int)) ({ frames := 2, cells := 0, slots := 0, locals := 41 } : Room) (va_Pc [.ref (L (123 + (8 * 6 + k)))] (pI D (cfC D L x) A)) (rQ (.int (ks_nd (x.1 0) k))) 0 0 nof := by
  refine met_I (by decide) rfl (Nat.le_of_ble_eq_true rfl) ?_
  intro p e s m below meth c ls hx hb hr hml hown hts hlocks hl hI hK
  have F : CallFix p m c cX7_needs 1 s _ lw_all RX7 := ⟨hx, hb, hml, hown, hts⟩
  have hl : lv_has ls 1 [(0, .ref (L (123 + (8 * 6 + k))))] := hl
  refine lv_iconst (v := 0) hx hb dX7_needs_0 (by decide) ?_
  refine lv_aload_n hx hb dX7_needs_1 rfl (lv_at hl 0 rfl) ?_
  refine c_r (k_SUP (As := []) (rest := [.int 0]) (ci := 12) (q := (RX12, TX12, 4)) rfl F (k_X6_needs_6 x k hk) (va_cwSU 0 hts (lw_SU q593 q579 q325 q577 q100 q610) rfl rfl rfl (by decide +kernel) ⟨Nat.le_of_ble_eq_true rfl, Nat.le_of_ble_eq_true rfl⟩) hI hK (cf_gk (κ := 6) (by decide) hk) rfl hl.1 rfl (Nat.le_of_ble_eq_true rfl) dX7_needs_2 ⟨Nat.le_of_ble_eq_true rfl, Nat.le_of_ble_eq_true rfl⟩) ?_
  refine lv_iconst (v := 2) hx hb dX7_needs_5 (by decide) ?_
  refine lv_isub hx hb dX7_needs_6 ?_
  refine va_mmax hx hb (by rw [hml]; exact hl.1.symm) hown (hts _ q594) (hts _ q595) (hts _ q108) (hts _ q596) (Nat.le_of_ble_eq_true rfl) (Nat.le_of_ble_eq_true rfl) (Nat.le_of_ble_eq_true rfl) (Nat.le_of_ble_eq_true rfl) dX7_needs_7 ?_
  exact W.iret hx hb hr (fun t ht _ => ⟨rI (rfl), ht⟩) (fun q h => by cases h) dX7_needs_10
theorem k_X8_needs_2 {l : Launch} {D : va_G} {L : Nat → Nat} {A : Nat → Prop} (x : cst) (k : Nat) (hk : k < 8) : Met l yX8_needs (ws_ yX8_needs cX8_needs 1 (some .int)) ({ frames := 2, cells := 0, slots := 0, locals := 41 } : Room) (va_Pc [.ref (L (123 + (8 * 2 + k)))] (pI D (cfC D L x) A)) (rQ (.int (10 - x.1 0 (2 + 2) k + 3))) 0 0 nof := by
  refine met_I (by decide) rfl (Nat.le_of_ble_eq_true rfl) ?_
  intro p e s m below meth c ls hx hb hr hml hown hts hlocks hl hI hK
  have F : CallFix p m c cX8_needs 1 s _ lw_all RX8 := ⟨hx, hb, hml, hown, hts⟩
  have hl : lv_has ls 1 [(0, .ref (L (123 + (8 * 2 + k))))] := hl
  refine lv_aload_n hx hb dX8_needs_0 rfl (lv_at hl 0 rfl) ?_
  refine c_r (k_SUP (As := []) (rest := []) (ci := 8) (q := (RX8, TX8, 3)) rfl F (k_X6_needs_2 x k hk) (va_cwSU 0 hts (lw_SU q604 q579 q337 q577 q100 q610) rfl rfl rfl (by decide +kernel) ⟨Nat.le_of_ble_eq_true rfl, Nat.le_of_ble_eq_true rfl⟩) hI hK (cf_gk (κ := 2) (by decide) hk) rfl hl.1 rfl (Nat.le_of_ble_eq_true rfl) dX8_needs_1 ⟨Nat.le_of_ble_eq_true rfl, Nat.le_of_ble_eq_true rfl⟩) ?_
  refine lv_iconst (v := 3) hx hb dX8_needs_4 (by decide) ?_
  refine lv_iadd hx hb dX8_needs_5 ?_
  exact W.iret hx hb hr (fun t ht _ => ⟨rI (rfl), ht⟩) (fun q h => by cases h) dX8_needs_6
theorem k_X8_needs_3 {l : Launch} {D : va_G} {L : Nat → Nat} {A : Nat → Prop} (x : cst) (k : Nat) (hk : k < 8) : Met l yX8_needs (ws_ yX8_needs cX8_needs 1 (some .int)) ({ frames := 2, cells := 0, slots := 0, locals := 41 } : Room) (va_Pc [.ref (L (123 + (8 * 3 + k)))] (pI D (cfC D L x) A)) (rQ (.int (10 - x.1 0 (2 + 2) k + 3))) 0 0 nof := by
  refine met_I (by decide) rfl (Nat.le_of_ble_eq_true rfl) ?_
  intro p e s m below meth c ls hx hb hr hml hown hts hlocks hl hI hK
  have F : CallFix p m c cX8_needs 1 s _ lw_all RX8 := ⟨hx, hb, hml, hown, hts⟩
  have hl : lv_has ls 1 [(0, .ref (L (123 + (8 * 3 + k))))] := hl
  refine lv_aload_n hx hb dX8_needs_0 rfl (lv_at hl 0 rfl) ?_
  refine c_r (k_SUP (As := []) (rest := []) (ci := 9) (q := (RX9, TX9, 4)) rfl F (k_X6_needs_3 x k hk) (va_cwSU 0 hts (lw_SU q604 q579 q337 q577 q100 q610) rfl rfl rfl (by decide +kernel) ⟨Nat.le_of_ble_eq_true rfl, Nat.le_of_ble_eq_true rfl⟩) hI hK (cf_gk (κ := 3) (by decide) hk) rfl hl.1 rfl (Nat.le_of_ble_eq_true rfl) dX8_needs_1 ⟨Nat.le_of_ble_eq_true rfl, Nat.le_of_ble_eq_true rfl⟩) ?_
  refine lv_iconst (v := 3) hx hb dX8_needs_4 (by decide) ?_
  refine lv_iadd hx hb dX8_needs_5 ?_
  exact W.iret hx hb hr (fun t ht _ => ⟨rI (rfl), ht⟩) (fun q h => by cases h) dX8_needs_6
theorem k_X9_needs_3 {l : Launch} {D : va_G} {L : Nat → Nat} {A : Nat → Prop} (x : cst) (k : Nat) (hk : k < 8) : Met l yX9_needs (ws_ yX9_needs cX9_needs 1 (some .int)) ({ frames := 3, cells := 0, slots := 0, locals := 61 } : Room) (va_Pc [.ref (L (123 + (8 * 3 + k)))] (pI D (cfC D L x) A)) (rQ (.int (ndI (x.1 0) 3 k))) 0 0 nof := by
  refine met_I (by decide) rfl (Nat.le_of_ble_eq_true rfl) ?_
  intro p e s m below meth c ls hx hb hr hml hown hts hlocks hl hI hK
  have F : CallFix p m c cX9_needs 1 s _ lw_all RX9 := ⟨hx, hb, hml, hown, hts⟩
  have hl : lv_has ls 1 [(0, .ref (L (123 + (8 * 3 + k))))] := hl
  refine lv_iconst (v := 0) hx hb dX9_needs_0 (by decide) ?_
  refine lv_aload_n hx hb dX9_needs_1 rfl (lv_at hl 0 rfl) ?_
  refine c_r (k_SUP (As := []) (rest := [.int 0]) (ci := 9) (q := (RX9, TX9, 4)) rfl F (k_X8_needs_3 x k hk) (va_cwSU 0 hts (lw_SU q601 q1635 q350 q602 q102 q603) rfl rfl rfl (by decide +kernel) ⟨Nat.le_of_ble_eq_true rfl, Nat.le_of_ble_eq_true rfl⟩) hI hK (cf_gk (κ := 3) (by decide) hk) rfl hl.1 rfl (Nat.le_of_ble_eq_true rfl) dX9_needs_2 ⟨Nat.le_of_ble_eq_true rfl, Nat.le_of_ble_eq_true rfl⟩) ?_
  refine lv_iconst (v := 4) hx hb dX9_needs_5 (by decide) ?_
  refine lv_isub hx hb dX9_needs_6 ?_
  refine va_mmax hx hb (by rw [hml]; exact hl.1.symm) hown (hts _ q605) (hts _ q595) (hts _ q108) (hts _ q596) (Nat.le_of_ble_eq_true rfl) (Nat.le_of_ble_eq_true rfl) (Nat.le_of_ble_eq_true rfl) (Nat.le_of_ble_eq_true rfl) dX9_needs_7 ?_
  exact W.iret hx hb hr (fun t ht _ => ⟨rI (rfl), ht⟩) (fun q h => by cases h) dX9_needs_10
theorem k_X10_needs_4 {l : Launch} {D : va_G} {L : Nat → Nat} {A : Nat → Prop} (x : cst) (k : Nat) (hk : k < 8) : Met l yX10_needs (ws_ yX10_needs cX10_needs 1 (some .int)) ({ frames := 0, cells := 0, slots := 0, locals := 0 } : Room) (va_Pc [.ref (L (123 + (8 * 4 + k)))] (pI D (cfC D L x) A)) (rQ (.int 99)) 0 0 nof := by
  refine met_I (by decide) rfl (Nat.le_of_ble_eq_true rfl) ?_
  intro p e s m below meth c ls hx hb hr hml hown hts hlocks hl hI hK
  have F : CallFix p m c cX10_needs 1 s _ lw_all RX10 := ⟨hx, hb, hml, hown, hts⟩
  have hl : lv_has ls 1 [(0, .ref (L (123 + (8 * 4 + k))))] := hl
  refine lv_bipush (v := 99) hx hb dX10_needs_0 (by decide) ?_
  exact W.iret hx hb hr (fun t ht _ => ⟨rI (rfl), ht⟩) (fun q h => by cases h) dX10_needs_2
theorem k_X11_needs_5 {l : Launch} {D : va_G} {L : Nat → Nat} {A : Nat → Prop} (x : cst) (k : Nat) (hk : k < 8) : Met l yX11_needs (ws_ yX11_needs cX11_needs 1 (some .int)) ({ frames := 0, cells := 0, slots := 0, locals := 0 } : Room) (va_Pc [.ref (L (123 + (8 * 5 + k)))] (pI D (cfC D L x) A)) (rQ (.int 0)) 0 0 nof := by
  refine met_I (by decide) rfl (Nat.le_of_ble_eq_true rfl) ?_
  intro p e s m below meth c ls hx hb hr hml hown hts hlocks hl hI hK
  have F : CallFix p m c cX11_needs 1 s _ lw_all RX11 := ⟨hx, hb, hml, hown, hts⟩
  have hl : lv_has ls 1 [(0, .ref (L (123 + (8 * 5 + k))))] := hl
  refine lv_iconst (v := 0) hx hb dX11_needs_0 (by decide) ?_
  exact W.iret hx hb hr (fun t ht _ => ⟨rI (rfl), ht⟩) (fun q h => by cases h) dX11_needs_1
theorem k_X12_needs_6 {l : Launch} {D : va_G} {L : Nat → Nat} {A : Nat → Prop} (x : cst) (k : Nat) (hk : k < 8) (hO : wOk (x.1 0)) : Met l yX12_needs (ws_ yX12_needs cX12_needs 2 (some .int)) ({ frames := 3, cells := 0, slots := 0, locals := 61 } : Room) (va_Pc [.ref (L (123 + (8 * 6 + k)))] (pI D (cfC D L x) A)) (rQ (.int (ndI (x.1 0) 6 k))) 0 0 nof := by
  refine met_I (by decide) rfl (Nat.le_of_ble_eq_true rfl) ?_
  intro p e s m below meth c ls hx hb hr hml hown hts hlocks hl hI hK
  have F : CallFix p m c cX12_needs 2 s _ lw_all RX12 := ⟨hx, hb, hml, hown, hts⟩
  have hl : lv_has ls 2 [(0, .ref (L (123 + (8 * 6 + k))))] := hl
  refine lv_aload_n hx hb dX12_needs_0 rfl (lv_at hl 0 rfl) ?_
  refine r_get (C := RX12) (T := TX12) (N := 4) hx hb hts in_X12 hown hK hI (cf_gk (κ := 6) (by decide) hk) rfl 3 (by decide) (hts _ q383) (fun _ h => h) rfl dX12_needs_1 ?_
  refine r_getN (C := RX0) (T := TX0) (N := 11) hx hb hts in_X0 hown hK hI (cf_main) rfl 3 (by decide) (nf_17 hK) (fun _ h => h) rfl dX12_needs_4 ?_
  refine lv_aload_n hx hb dX12_needs_7 rfl (lv_at hl 0 rfl) ?_
  refine lv_iconst (v := 1) hx hb dX12_needs_8 (by decide) ?_
  refine c_r (k_U (As := [.int 1]) (rest := [.ref (L (11 * 0))]) F (k_X6_told_6 x k hk 1 (by decide)) (va_cwU (owner := "LeftGloves$Glove") 1 hts (lw_U q586 q587 q588 q515 q100 q516) rfl rfl rfl rfl (by decide +kernel) ⟨Nat.le_of_ble_eq_true rfl, Nat.le_of_ble_eq_true rfl⟩) hI hK (hw.recv hI hK (cf_gk (κ := 6) (by decide) hk) (q := (RX12, TX12, 4)) rfl) rfl hl.1 rfl (Nat.le_of_ble_eq_true rfl) dX12_needs_9 ⟨Nat.le_of_ble_eq_true rfl, Nat.le_of_ble_eq_true rfl⟩) ?_
  refine c_r (k_V (As := [.int (x.1 0 (2 + 1) k)]) (rest := []) F (k_X4_whatIsIn x 0 (by decide) (hO) (x.1 0 (2 + 1) k)) (cwV 1 hts (lw_V q589 q471 q472 q98 q473) rfl rfl rfl (by decide +kernel) ⟨Nat.le_of_ble_eq_true rfl, Nat.le_of_ble_eq_true rfl⟩) hI hK (hw.recv hI hK (cf_W (w := 0) (by decide)) rfl) rfl hl.1 rfl (Nat.le_of_ble_eq_true rfl) dX12_needs_12 ⟨Nat.le_of_ble_eq_true rfl, Nat.le_of_ble_eq_true rfl⟩) ?_
  refine lv_iconst (v := 1) hx hb dX12_needs_15 (by decide) ?_
  refine lv_aload_n hx hb dX12_needs_16 rfl (lv_at hl 0 rfl) ?_
  refine r_get (C := RX12) (T := TX12) (N := 4) hx hb hts in_X12 hown hK hI (cf_gk (κ := 6) (by decide) hk) rfl 0 (by decide) (hts _ q315) (u_same (hts _ q316)) rfl dX12_needs_17 ?_
  refine lv_ishl hx hb dX12_needs_20 ?_
  refine lv_iconst (v := (-1)) hx hb dX12_needs_21 (by decide) ?_
  refine lv_ixor hx hb dX12_needs_22 ?_
  refine lv_iand hx hb dX12_needs_23 ?_
  refine lv_if_ne (tgt := 31) hx hb dX12_needs_24 (by decide) (fun c_24 => ?_) (fun c_24 => ?_)
  · skip
    refine lv_iconst (v := 0) hx hb dX12_needs_31 (by decide) ?_
    refine lv_istore_n (lv' := [(1, .int 0), (0, .ref (L (123 + (8 * 6 + k))))]) hx hb dX12_needs_32 rfl hl (by decide) rfl (fun ls hl => ?_)
    refine lv_iload_n hx hb dX12_needs_33 rfl (lv_at hl 0 rfl) ?_
    refine lv_if_eq (tgt := 44) hx hb dX12_needs_34 (by decide) (fun c_34 => ?_) (fun c_34 => ?_)
    · skip
      have c_34 : 0 = 0 := (neq (a := 0) (b := 0) (rfl) (rfl) (by omega) (by omega)).mp c_34
      refine lv_iconst (v := 1) hx hb dX12_needs_44 (by decide) ?_
      exact W.iret hx hb hr (fun t ht _ => ⟨rI (by simp only [ndI]; first | rw [if_pos c_24] | rw [if_neg c_24]), ht⟩) (fun q h => by cases h) dX12_needs_45
    · skip
      have c_34 : ¬ 0 = 0 := fun z => c_34 ((neq (a := 0) (b := 0) (rfl) (rfl) (by omega) (by omega)).mpr z)
      exact absurd (by decide) c_34
  · skip
    refine lv_iconst (v := 1) hx hb dX12_needs_27 (by decide) ?_
    refine lv_goto (tgt := 32) hx hb dX12_needs_28 (by decide) ?_
    refine lv_istore_n (lv' := [(1, .int 1), (0, .ref (L (123 + (8 * 6 + k))))]) hx hb dX12_needs_32 rfl hl (by decide) rfl (fun ls hl => ?_)
    refine lv_iload_n hx hb dX12_needs_33 rfl (lv_at hl 0 rfl) ?_
    refine lv_if_eq (tgt := 44) hx hb dX12_needs_34 (by decide) (fun c_34 => ?_) (fun c_34 => ?_)
    · skip
      have c_34 : 1 = 0 := (neq (a := 1) (b := 0) (rfl) (rfl) (by omega) (by omega)).mp c_34
      exact absurd c_34 (by decide)
    · skip
      have c_34 : ¬ 1 = 0 := fun z => c_34 ((neq (a := 1) (b := 0) (rfl) (rfl) (by omega) (by omega)).mpr z)
      refine lv_aload_n hx hb dX12_needs_37 rfl (lv_at hl 1 rfl) ?_
      refine c_r (k_SUP (As := []) (rest := []) (ci := 12) (q := (RX12, TX12, 4)) rfl F (k_X7_needs_6 x k hk) (va_cwSU 0 hts (lw_SU q590 q1634 q389 q591 q101 q592) rfl rfl rfl (by decide +kernel) ⟨Nat.le_of_ble_eq_true rfl, Nat.le_of_ble_eq_true rfl⟩) hI hK (cf_gk (κ := 6) (by decide) hk) rfl hl.1 rfl (Nat.le_of_ble_eq_true rfl) dX12_needs_38 ⟨Nat.le_of_ble_eq_true rfl, Nat.le_of_ble_eq_true rfl⟩) ?_
      refine lv_goto (tgt := 45) hx hb dX12_needs_41 (by decide) ?_
      exact W.iret hx hb hr (fun t ht _ => ⟨rI (by simp only [ndI]; first | rw [if_pos c_24] | rw [if_neg c_24]), ht⟩) (fun q h => by cases h) dX12_needs_45
theorem k_X6_hushes_0 {l : Launch} {D : va_G} {L : Nat → Nat} {A : Nat → Prop} (x : cst) (k : Nat) (hk : k < 8) : Met l yX6_hushes (ws_ yX6_hushes cX6_hushes 1 (some .int)) ({ frames := 0, cells := 0, slots := 0, locals := 0 } : Room) (va_Pc [.ref (L (123 + (8 * 0 + k)))] (pI D (cfC D L x) A)) (rQ (.int 0)) 0 0 nof := by
  refine met_I (by decide) rfl (Nat.le_of_ble_eq_true rfl) ?_
  intro p e s m below meth c ls hx hb hr hml hown hts hlocks hl hI hK
  have F : CallFix p m c cX6_hushes 1 s _ lw_all RX6 := ⟨hx, hb, hml, hown, hts⟩
  have hl : lv_has ls 1 [(0, .ref (L (123 + (8 * 0 + k))))] := hl
  refine lv_iconst (v := 0) hx hb dX6_hushes_0 (by decide) ?_
  exact W.iret hx hb hr (fun t ht _ => ⟨rI (rfl), ht⟩) (fun q h => by cases h) dX6_hushes_1
theorem k_X6_hushes_2 {l : Launch} {D : va_G} {L : Nat → Nat} {A : Nat → Prop} (x : cst) (k : Nat) (hk : k < 8) : Met l yX6_hushes (ws_ yX6_hushes cX6_hushes 1 (some .int)) ({ frames := 0, cells := 0, slots := 0, locals := 0 } : Room) (va_Pc [.ref (L (123 + (8 * 2 + k)))] (pI D (cfC D L x) A)) (rQ (.int 0)) 0 0 nof := by
  refine met_I (by decide) rfl (Nat.le_of_ble_eq_true rfl) ?_
  intro p e s m below meth c ls hx hb hr hml hown hts hlocks hl hI hK
  have F : CallFix p m c cX6_hushes 1 s _ lw_all RX6 := ⟨hx, hb, hml, hown, hts⟩
  have hl : lv_has ls 1 [(0, .ref (L (123 + (8 * 2 + k))))] := hl
  refine lv_iconst (v := 0) hx hb dX6_hushes_0 (by decide) ?_
  exact W.iret hx hb hr (fun t ht _ => ⟨rI (rfl), ht⟩) (fun q h => by cases h) dX6_hushes_1
theorem k_X6_hushes_3 {l : Launch} {D : va_G} {L : Nat → Nat} {A : Nat → Prop} (x : cst) (k : Nat) (hk : k < 8) : Met l yX6_hushes (ws_ yX6_hushes cX6_hushes 1 (some .int)) ({ frames := 0, cells := 0, slots := 0, locals := 0 } : Room) (va_Pc [.ref (L (123 + (8 * 3 + k)))] (pI D (cfC D L x) A)) (rQ (.int 0)) 0 0 nof := by
  refine met_I (by decide) rfl (Nat.le_of_ble_eq_true rfl) ?_
  intro p e s m below meth c ls hx hb hr hml hown hts hlocks hl hI hK
  have F : CallFix p m c cX6_hushes 1 s _ lw_all RX6 := ⟨hx, hb, hml, hown, hts⟩
  have hl : lv_has ls 1 [(0, .ref (L (123 + (8 * 3 + k))))] := hl
  refine lv_iconst (v := 0) hx hb dX6_hushes_0 (by decide) ?_
  exact W.iret hx hb hr (fun t ht _ => ⟨rI (rfl), ht⟩) (fun q h => by cases h) dX6_hushes_1
theorem k_X6_hushes_5 {l : Launch} {D : va_G} {L : Nat → Nat} {A : Nat → Prop} (x : cst) (k : Nat) (hk : k < 8) : Met l yX6_hushes (ws_ yX6_hushes cX6_hushes 1 (some .int)) ({ frames := 0, cells := 0, slots := 0, locals := 0 } : Room) (va_Pc [.ref (L (123 + (8 * 5 + k)))] (pI D (cfC D L x) A)) (rQ (.int 0)) 0 0 nof := by
  refine met_I (by decide) rfl (Nat.le_of_ble_eq_true rfl) ?_
  intro p e s m below meth c ls hx hb hr hml hown hts hlocks hl hI hK
  have F : CallFix p m c cX6_hushes 1 s _ lw_all RX6 := ⟨hx, hb, hml, hown, hts⟩
  have hl : lv_has ls 1 [(0, .ref (L (123 + (8 * 5 + k))))] := hl
  refine lv_iconst (v := 0) hx hb dX6_hushes_0 (by decide) ?_
  exact W.iret hx hb hr (fun t ht _ => ⟨rI (rfl), ht⟩) (fun q h => by cases h) dX6_hushes_1
theorem k_X7_hushes_1 {l : Launch} {D : va_G} {L : Nat → Nat} {A : Nat → Prop} (x : cst) (k : Nat) (hk : k < 8) : Met l yX7_hushes (ws_ yX7_hushes cX7_hushes 1 (some .int)) ({ frames := 0, cells := 0, slots := 0, locals := 0 } : Room) (va_Pc [.ref (L (123 + (8 * 1 + k)))] (pI D (cfC D L x) A)) (rQ (.int 1)) 0 0 nof := by
  refine met_I (by decide) rfl (Nat.le_of_ble_eq_true rfl) ?_
  intro p e s m below meth c ls hx hb hr hml hown hts hlocks hl hI hK
  have F : CallFix p m c cX7_hushes 1 s _ lw_all RX7 := ⟨hx, hb, hml, hown, hts⟩
  have hl : lv_has ls 1 [(0, .ref (L (123 + (8 * 1 + k))))] := hl
  refine lv_iconst (v := 1) hx hb dX7_hushes_0 (by decide) ?_
  exact W.iret hx hb hr (fun t ht _ => ⟨rI (rfl), ht⟩) (fun q h => by cases h) dX7_hushes_1
theorem k_X7_hushes_6 {l : Launch} {D : va_G} {L : Nat → Nat} {A : Nat → Prop} (x : cst) (k : Nat) (hk : k < 8) : Met l yX7_hushes (ws_ yX7_hushes cX7_hushes 1 (some .int)) ({ frames := 0, cells := 0, slots := 0, locals := 0 } : Room) (va_Pc [.ref (L (123 + (8 * 6 + k)))] (pI D (cfC D L x) A)) (rQ (.int 1)) 0 0 nof := by
  refine met_I (by decide) rfl (Nat.le_of_ble_eq_true rfl) ?_
  intro p e s m below meth c ls hx hb hr hml hown hts hlocks hl hI hK
  have F : CallFix p m c cX7_hushes 1 s _ lw_all RX7 := ⟨hx, hb, hml, hown, hts⟩
  have hl : lv_has ls 1 [(0, .ref (L (123 + (8 * 6 + k))))] := hl
  refine lv_iconst (v := 1) hx hb dX7_hushes_0 (by decide) ?_
  exact W.iret hx hb hr (fun t ht _ => ⟨rI (rfl), ht⟩) (fun q h => by cases h) dX7_hushes_1
theorem k_X10_hushes_4 {l : Launch} {D : va_G} {L : Nat → Nat} {A : Nat → Prop} (x : cst) (k : Nat) (hk : k < 8) : Met l yX10_hushes (ws_ yX10_hushes cX10_hushes 1 (some .int)) ({ frames := 0, cells := 0, slots := 0, locals := 0 } : Room) (va_Pc [.ref (L (123 + (8 * 4 + k)))] (pI D (cfC D L x) A)) (rQ (.int 0)) 0 0 nof := by
  refine met_I (by decide) rfl (Nat.le_of_ble_eq_true rfl) ?_
  intro p e s m below meth c ls hx hb hr hml hown hts hlocks hl hI hK
  have F : CallFix p m c cX10_hushes 1 s _ lw_all RX10 := ⟨hx, hb, hml, hown, hts⟩
  have hl : lv_has ls 1 [(0, .ref (L (123 + (8 * 4 + k))))] := hl
  refine lv_iconst (v := 0) hx hb dX10_hushes_0 (by decide) ?_
  exact W.iret hx hb hr (fun t ht _ => ⟨rI (rfl), ht⟩) (fun q h => by cases h) dX10_hushes_1
theorem k_X11_hushes_5 {l : Launch} {D : va_G} {L : Nat → Nat} {A : Nat → Prop} (x : cst) (k : Nat) (hk : k < 8) : Met l yX11_hushes (ws_ yX11_hushes cX11_hushes 1 (some .int)) ({ frames := 1, cells := 0, slots := 0, locals := 21 } : Room) (va_Pc [.ref (L (123 + (8 * 5 + k)))] (pI D (cfC D L x) A)) (rQ (.int (huI (x.1 0) 5 k))) 0 0 nof := by
  refine met_I (by decide) rfl (Nat.le_of_ble_eq_true rfl) ?_
  intro p e s m below meth c ls hx hb hr hml hown hts hlocks hl hI hK
  have F : CallFix p m c cX11_hushes 1 s _ lw_all RX11 := ⟨hx, hb, hml, hown, hts⟩
  have hl : lv_has ls 1 [(0, .ref (L (123 + (8 * 5 + k))))] := hl
  refine lv_aload_n hx hb dX11_hushes_0 rfl (lv_at hl 0 rfl) ?_
  refine c_r (k_SUP (As := []) (rest := []) (ci := 11) (q := (RX11, TX11, 3)) rfl F (k_X6_hushes_5 x k hk) (va_cwSU 0 hts (lw_SU q510 q489 q376 q487 q100 q517) rfl rfl rfl (by decide +kernel) ⟨Nat.le_of_ble_eq_true rfl, Nat.le_of_ble_eq_true rfl⟩) hI hK (cf_gk (κ := 5) (by decide) hk) rfl hl.1 rfl (Nat.le_of_ble_eq_true rfl) dX11_hushes_1 ⟨Nat.le_of_ble_eq_true rfl, Nat.le_of_ble_eq_true rfl⟩) ?_
  refine lv_aload_n hx hb dX11_hushes_4 rfl (lv_at hl 0 rfl) ?_
  refine lv_iconst (v := 4) hx hb dX11_hushes_5 (by decide) ?_
  refine c_r (k_U (As := [.int 4]) (rest := [.int 0]) F (k_X6_told_5 x k hk 4 (by decide)) (va_cwU (owner := "LeftGloves$Glove") 1 hts (lw_U q511 q512 q514 q515 q100 q516) rfl rfl rfl rfl (by decide +kernel) ⟨Nat.le_of_ble_eq_true rfl, Nat.le_of_ble_eq_true rfl⟩) hI hK (hw.recv hI hK (cf_gk (κ := 5) (by decide) hk) (q := (RX11, TX11, 3)) rfl) rfl hl.1 rfl (Nat.le_of_ble_eq_true rfl) dX11_hushes_6 ⟨Nat.le_of_ble_eq_true rfl, Nat.le_of_ble_eq_true rfl⟩) ?_
  refine lv_bipush (v := 100) hx hb dX11_hushes_9 (by decide) ?_
  refine lv_icmp_lt (tgt := 18) hx hb dX11_hushes_11 (by decide) (fun c_11 => ?_) (fun c_11 => ?_)
  · skip
    refine lv_iconst (v := 0) hx hb dX11_hushes_18 (by decide) ?_
    refine lv_iadd hx hb dX11_hushes_19 ?_
    exact W.iret hx hb hr (fun t ht _ => ⟨rI (by simp [huI, c_11]), ht⟩) (fun q h => by cases h) dX11_hushes_20
  · skip
    refine lv_iconst (v := 1) hx hb dX11_hushes_14 (by decide) ?_
    refine lv_goto (tgt := 19) hx hb dX11_hushes_15 (by decide) ?_
    refine lv_iadd hx hb dX11_hushes_19 ?_
    exact W.iret hx hb hr (fun t ht _ => ⟨rI (by simp [huI, c_11]), ht⟩) (fun q h => by cases h) dX11_hushes_20
theorem k_X12_hushes_6 {l : Launch} {D : va_G} {L : Nat → Nat} {A : Nat → Prop} (x : cst) (k : Nat) (hk : k < 8) : Met l yX12_hushes (ws_ yX12_hushes cX12_hushes 1 (some .int)) ({ frames := 1, cells := 0, slots := 0, locals := 20 } : Room) (va_Pc [.ref (L (123 + (8 * 6 + k)))] (pI D (cfC D L x) A)) (rQ (.int 2)) 0 0 nof := by
  refine met_I (by decide) rfl (Nat.le_of_ble_eq_true rfl) ?_
  intro p e s m below meth c ls hx hb hr hml hown hts hlocks hl hI hK
  have F : CallFix p m c cX12_hushes 1 s _ lw_all RX12 := ⟨hx, hb, hml, hown, hts⟩
  have hl : lv_has ls 1 [(0, .ref (L (123 + (8 * 6 + k))))] := hl
  refine lv_iconst (v := 2) hx hb dX12_hushes_0 (by decide) ?_
  refine lv_aload_n hx hb dX12_hushes_1 rfl (lv_at hl 0 rfl) ?_
  refine c_r (k_SUP (As := []) (rest := [.int 2]) (ci := 12) (q := (RX12, TX12, 4)) rfl F (k_X7_hushes_6 x k hk) (va_cwSU 0 hts (lw_SU q496 q1630 q389 q497 q101 q498) rfl rfl rfl (by decide +kernel) ⟨Nat.le_of_ble_eq_true rfl, Nat.le_of_ble_eq_true rfl⟩) hI hK (cf_gk (κ := 6) (by decide) hk) rfl hl.1 rfl (Nat.le_of_ble_eq_true rfl) dX12_hushes_2 ⟨Nat.le_of_ble_eq_true rfl, Nat.le_of_ble_eq_true rfl⟩) ?_
  refine lv_imul hx hb dX12_hushes_5 ?_
  exact W.iret hx hb hr (fun t ht _ => ⟨rI (by decide), ht⟩) (fun q h => by cases h) dX12_hushes_6
theorem k_X6_stays_0 {l : Launch} {D : va_G} {L : Nat → Nat} {A : Nat → Prop} (x : cst) (k : Nat) (hk : k < 8) : Met l yX6_stays (ws_ yX6_stays cX6_stays 1 (some .int)) ({ frames := 0, cells := 0, slots := 0, locals := 0 } : Room) (va_Pc [.ref (L (123 + (8 * 0 + k)))] (pI D (cfC D L x) A)) (rQ (.int 7)) 0 0 nof := by
  refine met_I (by decide) rfl (Nat.le_of_ble_eq_true rfl) ?_
  intro p e s m below meth c ls hx hb hr hml hown hts hlocks hl hI hK
  have F : CallFix p m c cX6_stays 1 s _ lw_all RX6 := ⟨hx, hb, hml, hown, hts⟩
  have hl : lv_has ls 1 [(0, .ref (L (123 + (8 * 0 + k))))] := hl
  refine lv_bipush (v := 7) hx hb dX6_stays_0 (by decide) ?_
  exact W.iret hx hb hr (fun t ht _ => ⟨rI (rfl), ht⟩) (fun q h => by cases h) dX6_stays_2
theorem k_X6_stays_1 {l : Launch} {D : va_G} {L : Nat → Nat} {A : Nat → Prop} (x : cst) (k : Nat) (hk : k < 8) : Met l yX6_stays (ws_ yX6_stays cX6_stays 1 (some .int)) ({ frames := 0, cells := 0, slots := 0, locals := 0 } : Room) (va_Pc [.ref (L (123 + (8 * 1 + k)))] (pI D (cfC D L x) A)) (rQ (.int 7)) 0 0 nof := by
  refine met_I (by decide) rfl (Nat.le_of_ble_eq_true rfl) ?_
  intro p e s m below meth c ls hx hb hr hml hown hts hlocks hl hI hK
  have F : CallFix p m c cX6_stays 1 s _ lw_all RX6 := ⟨hx, hb, hml, hown, hts⟩
  have hl : lv_has ls 1 [(0, .ref (L (123 + (8 * 1 + k))))] := hl
  refine lv_bipush (v := 7) hx hb dX6_stays_0 (by decide) ?_
  exact W.iret hx hb hr (fun t ht _ => ⟨rI (rfl), ht⟩) (fun q h => by cases h) dX6_stays_2
theorem k_X6_stays_2 {l : Launch} {D : va_G} {L : Nat → Nat} {A : Nat → Prop} (x : cst) (k : Nat) (hk : k < 8) : Met l yX6_stays (ws_ yX6_stays cX6_stays 1 (some .int)) ({ frames := 0, cells := 0, slots := 0, locals := 0 } : Room) (va_Pc [.ref (L (123 + (8 * 2 + k)))] (pI D (cfC D L x) A)) (rQ (.int 7)) 0 0 nof := by
  refine met_I (by decide) rfl (Nat.le_of_ble_eq_true rfl) ?_
  intro p e s m below meth c ls hx hb hr hml hown hts hlocks hl hI hK
  have F : CallFix p m c cX6_stays 1 s _ lw_all RX6 := ⟨hx, hb, hml, hown, hts⟩
  have hl : lv_has ls 1 [(0, .ref (L (123 + (8 * 2 + k))))] := hl
  refine lv_bipush (v := 7) hx hb dX6_stays_0 (by decide) ?_
  exact W.iret hx hb hr (fun t ht _ => ⟨rI (rfl), ht⟩) (fun q h => by cases h) dX6_stays_2
theorem k_X6_stays_3 {l : Launch} {D : va_G} {L : Nat → Nat} {A : Nat → Prop} (x : cst) (k : Nat) (hk : k < 8) : Met l yX6_stays (ws_ yX6_stays cX6_stays 1 (some .int)) ({ frames := 0, cells := 0, slots := 0, locals := 0 } : Room) (va_Pc [.ref (L (123 + (8 * 3 + k)))] (pI D (cfC D L x) A)) (rQ (.int 7)) 0 0 nof := by
  refine met_I (by decide) rfl (Nat.le_of_ble_eq_true rfl) ?_
  intro p e s m below meth c ls hx hb hr hml hown hts hlocks hl hI hK
  have F : CallFix p m c cX6_stays 1 s _ lw_all RX6 := ⟨hx, hb, hml, hown, hts⟩
  have hl : lv_has ls 1 [(0, .ref (L (123 + (8 * 3 + k))))] := hl
  refine lv_bipush (v := 7) hx hb dX6_stays_0 (by decide) ?_
  exact W.iret hx hb hr (fun t ht _ => ⟨rI (rfl), ht⟩) (fun q h => by cases h) dX6_stays_2
theorem k_X6_stays_6 {l : Launch} {D : va_G} {L : Nat → Nat} {A : Nat → Prop} (x : cst) (k : Nat) (hk : k < 8) : Met l yX6_stays (ws_ yX6_stays cX6_stays 1 (some .int)) ({ frames := 0, cells := 0, slots := 0, locals := 0 } : Room) (va_Pc [.ref (L (123 + (8 * 6 + k)))] (pI D (cfC D L x) A)) (rQ (.int 7)) 0 0 nof := by
  refine met_I (by decide) rfl (Nat.le_of_ble_eq_true rfl) ?_
  intro p e s m below meth c ls hx hb hr hml hown hts hlocks hl hI hK
  have F : CallFix p m c cX6_stays 1 s _ lw_all RX6 := ⟨hx, hb, hml, hown, hts⟩
  have hl : lv_has ls 1 [(0, .ref (L (123 + (8 * 6 + k))))] := hl
  refine lv_bipush (v := 7) hx hb dX6_stays_0 (by decide) ?_
  exact W.iret hx hb hr (fun t ht _ => ⟨rI (rfl), ht⟩) (fun q h => by cases h) dX6_stays_2
theorem k_X7_stays_1 {l : Launch} {D : va_G} {L : Nat → Nat} {A : Nat → Prop} (x : cst) (k : Nat) (hk : k < 8) : Met l yX7_stays (ws_ yX7_stays cX7_stays 1 (some .int)) ({ frames := 1, cells := 0, slots := 0, locals := 20 } : Room) (va_Pc [.ref (L (123 + (8 * 1 + k)))] (pI D (cfC D L x) A)) (rQ (.int 5)) 0 0 nof := by
  refine met_I (by decide) rfl (Nat.le_of_ble_eq_true rfl) ?_
  intro p e s m below meth c ls hx hb hr hml hown hts hlocks hl hI hK
  have F : CallFix p m c cX7_stays 1 s _ lw_all RX7 := ⟨hx, hb, hml, hown, hts⟩
  have hl : lv_has ls 1 [(0, .ref (L (123 + (8 * 1 + k))))] := hl
  refine lv_aload_n hx hb dX7_stays_0 rfl (lv_at hl 0 rfl) ?_
  refine c_r (k_SUP (As := []) (rest := []) (ci := 7) (q := (RX7, TX7, 3)) rfl F (k_X6_stays_1 x k hk) (va_cwSU 0 hts (lw_SU q622 q615 q325 q613 q100 q632) rfl rfl rfl (by decide +kernel) ⟨Nat.le_of_ble_eq_true rfl, Nat.le_of_ble_eq_true rfl⟩) hI hK (cf_gk (κ := 1) (by decide) hk) rfl hl.1 rfl (Nat.le_of_ble_eq_true rfl) dX7_stays_1 ⟨Nat.le_of_ble_eq_true rfl, Nat.le_of_ble_eq_true rfl⟩) ?_
  refine lv_iconst (v := 2) hx hb dX7_stays_4 (by decide) ?_
  refine lv_isub hx hb dX7_stays_5 ?_
  exact W.iret hx hb hr (fun t ht _ => ⟨rI (by decide), ht⟩) (fun q h => by cases h) dX7_stays_6
theorem k_X7_stays_6 {l : Launch} {D : va_G} {L : Nat → Nat} {A : Nat → Prop} (x : cst) (k : Nat) (hk : k < 8) : Met l yX7_stays (ws_ yX7_stays cX7_stays 1 (some .int)) ({ frames := 1, cells := 0, slots := 0, locals := 20 } : Room) (va_Pc [.ref (L (123 + (8 * 6 + k)))] (pI D (cfC D L x) A)) (rQ (.int 5)) 0 0 nof := by
  refine met_I (by decide) rfl (Nat.le_of_ble_eq_true rfl) ?_
  intro p e s m below meth c ls hx hb hr hml hown hts hlocks hl hI hK
  have F : CallFix p m c cX7_stays 1 s _ lw_all RX7 := ⟨hx, hb, hml, hown, hts⟩
  have hl : lv_has ls 1 [(0, .ref (L (123 + (8 * 6 + k))))] := hl
  refine lv_aload_n hx hb dX7_stays_0 rfl (lv_at hl 0 rfl) ?_
  refine c_r (k_SUP (As := []) (rest := []) (ci := 12) (q := (RX12, TX12, 4)) rfl F (k_X6_stays_6 x k hk) (va_cwSU 0 hts (lw_SU q622 q615 q325 q613 q100 q632) rfl rfl rfl (by decide +kernel) ⟨Nat.le_of_ble_eq_true rfl, Nat.le_of_ble_eq_true rfl⟩) hI hK (cf_gk (κ := 6) (by decide) hk) rfl hl.1 rfl (Nat.le_of_ble_eq_true rfl) dX7_stays_1 ⟨Nat.le_of_ble_eq_true rfl, Nat.le_of_ble_eq_true rfl⟩) ?_
  refine lv_iconst (v := 2) hx hb dX7_stays_4 (by decide) ?_
  refine lv_isub hx hb dX7_stays_5 ?_
  exact W.iret hx hb hr (fun t ht _ => ⟨rI (by decide), ht⟩) (fun q h => by cases h) dX7_stays_6
theorem k_X8_stays_2 {l : Launch} {D : va_G} {L : Nat → Nat} {A : Nat → Prop} (x : cst) (k : Nat) (hk : k < 8) : Met l yX8_stays (ws_ yX8_stays cX8_stays 1 (some .int)) ({ frames := 1, cells := 0, slots := 0, locals := 20 } : Room) (va_Pc [.ref (L (123 + (8 * 2 + k)))] (pI D (cfC D L x) A)) (rQ (.int 14)) 0 0 nof := by
  refine met_I (by decide) rfl (Nat.le_of_ble_eq_true rfl) ?_
  intro p e s m below meth c ls hx hb hr hml hown hts hlocks hl hI hK
  have F : CallFix p m c cX8_stays 1 s _ lw_all RX8 := ⟨hx, hb, hml, hown, hts⟩
  have hl : lv_has ls 1 [(0, .ref (L (123 + (8 * 2 + k))))] := hl
  refine lv_iconst (v := 2) hx hb dX8_stays_0 (by decide) ?_
  refine lv_aload_n hx hb dX8_stays_1 rfl (lv_at hl 0 rfl) ?_
  refine c_r (k_SUP (As := []) (rest := [.int 2]) (ci := 8) (q := (RX8, TX8, 3)) rfl F (k_X6_stays_2 x k hk) (va_cwSU 0 hts (lw_SU q627 q615 q337 q613 q100 q632) rfl rfl rfl (by decide +kernel) ⟨Nat.le_of_ble_eq_true rfl, Nat.le_of_ble_eq_true rfl⟩) hI hK (cf_gk (κ := 2) (by decide) hk) rfl hl.1 rfl (Nat.le_of_ble_eq_true rfl) dX8_stays_2 ⟨Nat.le_of_ble_eq_true rfl, Nat.le_of_ble_eq_true rfl⟩) ?_
  refine lv_imul hx hb dX8_stays_5 ?_
  exact W.iret hx hb hr (fun t ht _ => ⟨rI (by decide), ht⟩) (fun q h => by cases h) dX8_stays_6
theorem k_X8_stays_3 {l : Launch} {D : va_G} {L : Nat → Nat} {A : Nat → Prop} (x : cst) (k : Nat) (hk : k < 8) : Met l yX8_stays (ws_ yX8_stays cX8_stays 1 (some .int)) ({ frames := 1, cells := 0, slots := 0, locals := 20 } : Room) (va_Pc [.ref (L (123 + (8 * 3 + k)))] (pI D (cfC D L x) A)) (rQ (.int 14)) 0 0 nof := by
  refine met_I (by decide) rfl (Nat.le_of_ble_eq_true rfl) ?_
  intro p e s m below meth c ls hx hb hr hml hown hts hlocks hl hI hK
  have F : CallFix p m c cX8_stays 1 s _ lw_all RX8 := ⟨hx, hb, hml, hown, hts⟩
  have hl : lv_has ls 1 [(0, .ref (L (123 + (8 * 3 + k))))] := hl
  refine lv_iconst (v := 2) hx hb dX8_stays_0 (by decide) ?_
  refine lv_aload_n hx hb dX8_stays_1 rfl (lv_at hl 0 rfl) ?_
  refine c_r (k_SUP (As := []) (rest := [.int 2]) (ci := 9) (q := (RX9, TX9, 4)) rfl F (k_X6_stays_3 x k hk) (va_cwSU 0 hts (lw_SU q627 q615 q337 q613 q100 q632) rfl rfl rfl (by decide +kernel) ⟨Nat.le_of_ble_eq_true rfl, Nat.le_of_ble_eq_true rfl⟩) hI hK (cf_gk (κ := 3) (by decide) hk) rfl hl.1 rfl (Nat.le_of_ble_eq_true rfl) dX8_stays_2 ⟨Nat.le_of_ble_eq_true rfl, Nat.le_of_ble_eq_true rfl⟩) ?_
  refine lv_imul hx hb dX8_stays_5 ?_
  exact W.iret hx hb hr (fun t ht _ => ⟨rI (by decide), ht⟩) (fun q h => by cases h) dX8_stays_6
theorem k_X10_stays_4 {l : Launch} {D : va_G} {L : Nat → Nat} {A : Nat → Prop} (x : cst) (k : Nat) (hk : k < 8) : Met l yX10_stays (ws_ yX10_stays cX10_stays 1 (some .int)) ({ frames := 0, cells := 0, slots := 0, locals := 0 } : Room) (va_Pc [.ref (L (123 + (8 * 4 + k)))] (pI D (cfC D L x) A)) (rQ (.int 0)) 0 0 nof := by
  refine met_I (by decide) rfl (Nat.le_of_ble_eq_true rfl) ?_
  intro p e s m below meth c ls hx hb hr hml hown hts hlocks hl hI hK
  have F : CallFix p m c cX10_stays 1 s _ lw_all RX10 := ⟨hx, hb, hml, hown, hts⟩
  have hl : lv_has ls 1 [(0, .ref (L (123 + (8 * 4 + k))))] := hl
  refine lv_iconst (v := 0) hx hb dX10_stays_0 (by decide) ?_
  exact W.iret hx hb hr (fun t ht _ => ⟨rI (rfl), ht⟩) (fun q h => by cases h) dX10_stays_1
theorem k_X11_stays_5 {l : Launch} {D : va_G} {L : Nat → Nat} {A : Nat → Prop} (x : cst) (k : Nat) (hk : k < 8) : Met l yX11_stays (ws_ yX11_stays cX11_stays 1 (some .int)) ({ frames := 0, cells := 0, slots := 0, locals := 0 } : Room) (va_Pc [.ref (L (123 + (8 * 5 + k)))] (pI D (cfC D L x) A)) (rQ (.int 0)) 0 0 nof := by
  refine met_I (by decide) rfl (Nat.le_of_ble_eq_true rfl) ?_
  intro p e s m below meth c ls hx hb hr hml hown hts hlocks hl hI hK
  have F : CallFix p m c cX11_stays 1 s _ lw_all RX11 := ⟨hx, hb, hml, hown, hts⟩
  have hl : lv_has ls 1 [(0, .ref (L (123 + (8 * 5 + k))))] := hl
  refine lv_iconst (v := 0) hx hb dX11_stays_0 (by decide) ?_
  exact W.iret hx hb hr (fun t ht _ => ⟨rI (rfl), ht⟩) (fun q h => by cases h) dX11_stays_1
theorem k_X6_keeps_0 {l : Launch} {D : va_G} {L : Nat → Nat} {A : Nat → Prop} (x : cst) (k : Nat) (hk : k < 8) : Met l yX6_keeps (ws_ yX6_keeps cX6_keeps 1 (some .int)) ({ frames := 0, cells := 0, slots := 0, locals := 0 } : Room) (va_Pc [.ref (L (123 + (8 * 0 + k)))] (pI D (cfC D L x) A)) (rQ (.int 6)) 0 0 nof := by
  refine met_I (by decide) rfl (Nat.le_of_ble_eq_true rfl) ?_
  intro p e s m below meth c ls hx hb hr hml hown hts hlocks hl hI hK
  have F : CallFix p m c cX6_keeps 1 s _ lw_all RX6 := ⟨hx, hb, hml, hown, hts⟩
  have hl : lv_has ls 1 [(0, .ref (L (123 + (8 * 0 + k))))] := hl
  refine lv_bipush (v := 6) hx hb dX6_keeps_0 (by decide) ?_
  exact W.iret hx hb hr (fun t ht _ => ⟨rI (rfl), ht⟩) (fun q h => by cases h) dX6_keeps_2
theorem k_X6_keeps_1 {l : Launch} {D : va_G} {L : Nat → Nat} {A : Nat → Prop} (x : cst) (k : Nat) (hk : k < 8) : Met l yX6_keeps (ws_ yX6_keeps cX6_keeps 1 (some .int)) ({ frames := 0, cells := 0, slots := 0, locals := 0 } : Room) (va_Pc [.ref (L (123 + (8 * 1 + k)))] (pI D (cfC D L x) A)) (rQ (.int 6)) 0 0 nof := by
  refine met_I (by decide) rfl (Nat.le_of_ble_eq_true rfl) ?_
  intro p e s m below meth c ls hx hb hr hml hown hts hlocks hl hI hK
  have F : CallFix p m c cX6_keeps 1 s _ lw_all RX6 := ⟨hx, hb, hml, hown, hts⟩
  have hl : lv_has ls 1 [(0, .ref (L (123 + (8 * 1 + k))))] := hl
  refine lv_bipush (v := 6) hx hb dX6_keeps_0 (by decide) ?_
  exact W.iret hx hb hr (fun t ht _ => ⟨rI (rfl), ht⟩) (fun q h => by cases h) dX6_keeps_2
theorem k_X6_keeps_2 {l : Launch} {D : va_G} {L : Nat → Nat} {A : Nat → Prop} (x : cst) (k : Nat) (hk : k < 8) : Met l yX6_keeps (ws_ yX6_keeps cX6_keeps 1 (some .int)) ({ frames := 0, cells := 0, slots := 0, locals := 0 } : Room) (va_Pc [.ref (L (123 + (8 * 2 + k)))] (pI D (cfC D L x) A)) (rQ (.int 6)) 0 0 nof := by
  refine met_I (by decide) rfl (Nat.le_of_ble_eq_true rfl) ?_
  intro p e s m below meth c ls hx hb hr hml hown hts hlocks hl hI hK
  have F : CallFix p m c cX6_keeps 1 s _ lw_all RX6 := ⟨hx, hb, hml, hown, hts⟩
  have hl : lv_has ls 1 [(0, .ref (L (123 + (8 * 2 + k))))] := hl
  refine lv_bipush (v := 6) hx hb dX6_keeps_0 (by decide) ?_
  exact W.iret hx hb hr (fun t ht _ => ⟨rI (rfl), ht⟩) (fun q h => by cases h) dX6_keeps_2
theorem k_X6_keeps_3 {l : Launch} {D : va_G} {L : Nat → Nat} {A : Nat → Prop} (x : cst) (k : Nat) (hk : k < 8) : Met l yX6_keeps (ws_ yX6_keeps cX6_keeps 1 (some .int)) ({ frames := 0, cells := 0, slots := 0, locals := 0 } : Room) (va_Pc [.ref (L (123 + (8 * 3 + k)))] (pI D (cfC D L x) A)) (rQ (.int 6)) 0 0 nof := by
  refine met_I (by decide) rfl (Nat.le_of_ble_eq_true rfl) ?_
  intro p e s m below meth c ls hx hb hr hml hown hts hlocks hl hI hK
  have F : CallFix p m c cX6_keeps 1 s _ lw_all RX6 := ⟨hx, hb, hml, hown, hts⟩
  have hl : lv_has ls 1 [(0, .ref (L (123 + (8 * 3 + k))))] := hl
  refine lv_bipush (v := 6) hx hb dX6_keeps_0 (by decide) ?_
  exact W.iret hx hb hr (fun t ht _ => ⟨rI (rfl), ht⟩) (fun q h => by cases h) dX6_keeps_2
theorem k_X6_keeps_4 {l : Launch} {D : va_G} {L : Nat → Nat} {A : Nat → Prop} (x : cst) (k : Nat) (hk : k < 8) : Met l yX6_keeps (ws_ yX6_keeps cX6_keeps 1 (some .int)) ({ frames := 0, cells := 0, slots := 0, locals := 0 } : Room) (va_Pc [.ref (L (123 + (8 * 4 + k)))] (pI D (cfC D L x) A)) (rQ (.int 6)) 0 0 nof := by
  refine met_I (by decide) rfl (Nat.le_of_ble_eq_true rfl) ?_
  intro p e s m below meth c ls hx hb hr hml hown hts hlocks hl hI hK
  have F : CallFix p m c cX6_keeps 1 s _ lw_all RX6 := ⟨hx, hb, hml, hown, hts⟩
  have hl : lv_has ls 1 [(0, .ref (L (123 + (8 * 4 + k))))] := hl
  refine lv_bipush (v := 6) hx hb dX6_keeps_0 (by decide) ?_
  exact W.iret hx hb hr (fun t ht _ => ⟨rI (rfl), ht⟩) (fun q h => by cases h) dX6_keeps_2
theorem k_X6_keeps_6 {l : Launch} {D : va_G} {L : Nat → Nat} {A : Nat → Prop} (x : cst) (k : Nat) (hk : k < 8) : Met l yX6_keeps (ws_ yX6_keeps cX6_keeps 1 (some .int)) ({ frames := 0, cells := 0, slots := 0, locals := 0 } : Room) (va_Pc [.ref (L (123 + (8 * 6 + k)))] (pI D (cfC D L x) A)) (rQ (.int 6)) 0 0 nof := by
  refine met_I (by decide) rfl (Nat.le_of_ble_eq_true rfl) ?_
  intro p e s m below meth c ls hx hb hr hml hown hts hlocks hl hI hK
  have F : CallFix p m c cX6_keeps 1 s _ lw_all RX6 := ⟨hx, hb, hml, hown, hts⟩
  have hl : lv_has ls 1 [(0, .ref (L (123 + (8 * 6 + k))))] := hl
  refine lv_bipush (v := 6) hx hb dX6_keeps_0 (by decide) ?_
  exact W.iret hx hb hr (fun t ht _ => ⟨rI (rfl), ht⟩) (fun q h => by cases h) dX6_keeps_2
theorem k_X7_keeps_1 {l : Launch} {D : va_G} {L : Nat → Nat} {A : Nat → Prop} (x : cst) (k : Nat) (hk : k < 8) : Met l yX7_keeps (ws_ yX7_keeps cX7_keeps 1 (some .int)) ({ frames := 1, cells := 0, slots := 0, locals := 20 } : Room) (va_Pc [.ref (L (123 + (8 * 1 + k)))] (pI D (cfC D L x) A)) (rQ (.int 8)) 0 0 nof := by
  refine met_I (by decide) rfl (Nat.le_of_ble_eq_true rfl) ?_
  intro p e s m below meth c ls hx hb hr hml hown hts hlocks hl hI hK
  have F : CallFix p m c cX7_keeps 1 s _ lw_all RX7 := ⟨hx, hb, hml, hown, hts⟩
  have hl : lv_has ls 1 [(0, .ref (L (123 + (8 * 1 + k))))] := hl
  refine lv_aload_n hx hb dX7_keeps_0 rfl (lv_at hl 0 rfl) ?_
  refine c_r (k_SUP (As := []) (rest := []) (ci := 7) (q := (RX7, TX7, 3)) rfl F (k_X6_keeps_1 x k hk) (va_cwSU 0 hts (lw_SU q654 q636 q325 q634 q100 q661) rfl rfl rfl (by decide +kernel) ⟨Nat.le_of_ble_eq_true rfl, Nat.le_of_ble_eq_true rfl⟩) hI hK (cf_gk (κ := 1) (by decide) hk) rfl hl.1 rfl (Nat.le_of_ble_eq_true rfl) dX7_keeps_1 ⟨Nat.le_of_ble_eq_true rfl, Nat.le_of_ble_eq_true rfl⟩) ?_
  refine lv_iconst (v := 2) hx hb dX7_keeps_4 (by decide) ?_
  refine lv_iadd hx hb dX7_keeps_5 ?_
  exact W.iret hx hb hr (fun t ht _ => ⟨rI (by decide), ht⟩) (fun q h => by cases h) dX7_keeps_6
theorem k_X7_keeps_6 {l : Launch} {D : va_G} {L : Nat → Nat} {A : Nat → Prop} (x : cst) (k : Nat) (hk : k < 8) : Met l yX7_keeps (ws_ yX7_keeps cX7_keeps 1 (some .int)) ({ frames := 1, cells := 0, slots := 0, locals := 20 } : Room) (va_Pc [.ref (L (123 + (8 * 6 + k)))] (pI D (cfC D L x) A)) (rQ (.int 8)) 0 0 nof := by
  refine met_I (by decide) rfl (Nat.le_of_ble_eq_true rfl) ?_
  intro p e s m below meth c ls hx hb hr hml hown hts hlocks hl hI hK
  have F : CallFix p m c cX7_keeps 1 s _ lw_all RX7 := ⟨hx, hb, hml, hown, hts⟩
  have hl : lv_has ls 1 [(0, .ref (L (123 + (8 * 6 + k))))] := hl
  refine lv_aload_n hx hb dX7_keeps_0 rfl (lv_at hl 0 rfl) ?_
  refine c_r (k_SUP (As := []) (rest := []) (ci := 12) (q := (RX12, TX12, 4)) rfl F (k_X6_keeps_6 x k hk) (va_cwSU 0 hts (lw_SU q654 q636 q325 q634 q100 q661) rfl rfl rfl (by decide +kernel) ⟨Nat.le_of_ble_eq_true rfl, Nat.le_of_ble_eq_true rfl⟩) hI hK (cf_gk (κ := 6) (by decide) hk) rfl hl.1 rfl (Nat.le_of_ble_eq_true rfl) dX7_keeps_1 ⟨Nat.le_of_ble_eq_true rfl, Nat.le_of_ble_eq_true rfl⟩) ?_
  refine lv_iconst (v := 2) hx hb dX7_keeps_4 (by decide) ?_
  refine lv_iadd hx hb dX7_keeps_5 ?_
  exact W.iret hx hb hr (fun t ht _ => ⟨rI (by decide), ht⟩) (fun q h => by cases h) dX7_keeps_6
theorem k_X11_keeps_5 {l : Launch} {D : va_G} {L : Nat → Nat} {A : Nat → Prop} (x : cst) (k : Nat) (hk : k < 8) : Met l yX11_keeps (ws_ yX11_keeps cX11_keeps 1 (some .int)) ({ frames := 0, cells := 0, slots := 0, locals := 0 } : Room) (va_Pc [.ref (L (123 + (8 * 5 + k)))] (pI D (cfC D L x) A)) (rQ (.int 16)) 0 0 nof := by
  refine met_I (by decide) rfl (Nat.le_of_ble_eq_true rfl) ?_
  intro p e s m below meth c ls hx hb hr hml hown hts hlocks hl hI hK
  have F : CallFix p m c cX11_keeps 1 s _ lw_all RX11 := ⟨hx, hb, hml, hown, hts⟩
  have hl : lv_has ls 1 [(0, .ref (L (123 + (8 * 5 + k))))] := hl
  refine lv_bipush (v := 16) hx hb dX11_keeps_0 (by decide) ?_
  exact W.iret hx hb hr (fun t ht _ => ⟨rI (rfl), ht⟩) (fun q h => by cases h) dX11_keeps_2
theorem k_X12_keeps_6 {l : Launch} {D : va_G} {L : Nat → Nat} {A : Nat → Prop} (x : cst) (k : Nat) (hk : k < 8) : Met l yX12_keeps (ws_ yX12_keeps cX12_keeps 1 (some .int)) ({ frames := 2, cells := 0, slots := 0, locals := 40 } : Room) (va_Pc [.ref (L (123 + (8 * 6 + k)))] (pI D (cfC D L x) A)) (rQ (.int 10)) 0 0 nof := by
  refine met_I (by decide) rfl (Nat.le_of_ble_eq_true rfl) ?_
  intro p e s m below meth c ls hx hb hr hml hown hts hlocks hl hI hK
  have F : CallFix p m c cX12_keeps 1 s _ lw_all RX12 := ⟨hx, hb, hml, hown, hts⟩
  have hl : lv_has ls 1 [(0, .ref (L (123 + (8 * 6 + k))))] := hl
  refine lv_aload_n hx hb dX12_keeps_0 rfl (lv_at hl 0 rfl) ?_
  refine c_r (k_SUP (As := []) (rest := []) (ci := 12) (q := (RX12, TX12, 4)) rfl F (k_X7_keeps_6 x k hk) (va_cwSU 0 hts (lw_SU q651 q1644 q389 q652 q101 q653) rfl rfl rfl (by decide +kernel) ⟨Nat.le_of_ble_eq_true rfl, Nat.le_of_ble_eq_true rfl⟩) hI hK (cf_gk (κ := 6) (by decide) hk) rfl hl.1 rfl (Nat.le_of_ble_eq_true rfl) dX12_keeps_1 ⟨Nat.le_of_ble_eq_true rfl, Nat.le_of_ble_eq_true rfl⟩) ?_
  refine lv_iconst (v := 2) hx hb dX12_keeps_4 (by decide) ?_
  refine lv_iadd hx hb dX12_keeps_5 ?_
  exact W.iret hx hb hr (fun t ht _ => ⟨rI (by decide), ht⟩) (fun q h => by cases h) dX12_keeps_6
