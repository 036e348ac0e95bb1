/-! LeftGloves: gloves, findings, a day -/
section CASTG
variable {p : Program} {l : Launch} {e : Env} {R : Room} {s : State} {m : MethodId} {args : Array Value} {below : List Frame} {meth : Method} {c : Code} {H H0 : Heap} {locs : List Loc} {cells slots : Nat} {Q : State → Prop}
variable {cc : ByteArray} {pc : Nat} {ls : Array Slot} {rest : List Value} {A : Nat → Prop} {D : va_G} {L : Nat → Nat} {x : cst} {κ k : Nat}
theorem r_castG (hexec : p.tables.exec = Jvm.exec) (hb : c.code = cc) {own : String} {index : Nat} (hown : s.vm.findClass own = some m.cls) (hlink : (Cond.classLink own index "LeftGloves$Glove").before args s = true) (hK : KK D s) (hI : hw D (cfC D L x) A H) (hκ : κ < 7) (hk : k < 8) (hdg : decode cc pc = .ok (.checkcast index, 3))
    (kk : W p l e R s m args below meth c H locs cells slots Q (F0 m (pc + 3) ls (.ref (L (123 + (8 * κ + k))) :: rest))) : W p l e R s m args below meth c H locs cells slots Q (F0 m pc ls (.ref (L (123 + (8 * κ + k))) :: rest)) := by
  have hcast : ∀ C, (C, "LeftGloves$Glove") ∈ nwC → va_Nw (.castable C "LeftGloves$Glove") s := fun C h => hK.2.2.2.1 _ h
  match κ, hκ with
  | 0, _ => exact va_castS hexec hb hown hlink (hK.1.1 6 _ rfl).2 (hw.recv hI hK (cf_gk (κ := 0) (by decide) hk) (q := (RX6, TX6, 2)) rfl) hdg kk
  | 1, _ => exact va_castY hexec hb hown hlink (hcast _ (by decide)) (hw.recv hI hK (cf_gk (κ := 1) (by decide) hk) (q := (RX7, TX7, 3)) rfl) hdg kk
  | 2, _ => exact va_castY hexec hb hown hlink (hcast _ (by decide)) (hw.recv hI hK (cf_gk (κ := 2) (by decide) hk) (q := (RX8, TX8, 3)) rfl) hdg kk
  | 3, _ => exact va_castY hexec hb hown hlink (hcast _ (by decide)) (hw.recv hI hK (cf_gk (κ := 3) (by decide) hk) (q := (RX9, TX9, 4)) rfl) hdg kk
  | 4, _ => exact va_castY hexec hb hown hlink (hcast _ (by decide)) (hw.recv hI hK (cf_gk (κ := 4) (by decide) hk) (q := (RX10, TX10, 5)) rfl) hdg kk
  | 5, _ => exact va_castY hexec hb hown hlink (hcast _ (by decide)) (hw.recv hI hK (cf_gk (κ := 5) (by decide) hk) (q := (RX11, TX11, 3)) rfl) hdg kk
  | 6, _ => exact va_castY hexec hb hown hlink (hcast _ (by decide)) (hw.recv hI hK (cf_gk (κ := 6) (by decide) hk) (q := (RX12, TX12, 4)) rfl) hdg kk
end CASTG
/-- the kind of a glove, as a number -/
def kN (f : wd) (k : Nat) : Nat := (f (2 + 0) k).toNatClampNeg
theorem wOk.k {f : wd} (h : wOk f) {k : Nat} (hk : k < 8) : f (2 + 0) k = nI (kN f k) ∧ kN f k < 7 := by
  obtain ⟨j, hj, e⟩ := (h.2.1 k hk).1
  have : kN f k = j := by unfold kN; rw [show f (2 + 0) k = nI j from e, nI_clamp (by omega)]
  rw [this]
  exact ⟨e, hj⟩
def fnd (x : cst) (k : Nat) : cst := xr x 3 k (x.2.1 3 k + 1)
def isGlI (f : wd) (v : Int32) : Int32 := inI v 0 (f 1 0 - 1)
def hiS (f : wd) (set : Int32) (k : Nat) (acc : Int32) : Int32 := acc + (if hsI set (nI k) = 0 then 0 else huI f (kN f k) k)
def hiI (f : wd) (room : Int32) : Int32 := itr (hiS f (whI f room)) 0 (wN f)
def lodI (f : wd) (sy : Int32) : Int32 := mxI 0 (ldI sy - hiI f (rmI sy))
def heS (f : wd) (set loud : Int32) (k : Nat) (acc : Int32) : Int32 := acc ||| (if hsI set (nI k) = 0 then 0 else if loud < ndI f (kN f k) k then 0 else b1 k)
def heI (f : wd) (sy : Int32) : Int32 := itr (heS f (whI f (rmI sy)) (lodI f sy)) 0 (wN f)
def lnS (f : wd) (hear t : Int32) (k : Nat) (g : wd) : wd := if hsI hear (nI k) = 0 then g else lnw g k t (kpI (kN f k))
def liS (f : wd) (k : Nat) (g : wd) : wd := if hsI (f 1 1) (nI k) = 0 then liw g k (styI (kN f k)) else g
def psw1 (f : wd) (i : Nat) : wd := itr (lnS f (heI f (nwI f)) (tpI (nwI f))) f i
def psw2 (f : wd) (i : Nat) : wd := itr (liS f) (psw1 f (wN f)) i
/-- a day goes by -/
def psw (f : wd) : wd := u2 (psw2 f (wN f)) 1 2 (f 1 2 + 1)
theorem lnS_r (f : wd) (a b : Int32) (g : wd) (i r : Nat) (hr : r ≠ 2 + 3) : itr (lnS f a b) g i r = g r := by
  induction i with
  | zero => rfl
  | succ i ih =>
    rw [itr_s, lnS]
    by_cases h : hsI a (nI i) = 0
    · rw [if_pos h, ih]
    · rw [if_neg h, lnw, u2_ne hr, ih]
theorem isdw_r (f : wd) (k r : Nat) (hr : r < 3 ∨ r = 4 ∨ 8 < r) : isdw f k r = f r := by
  simp only [isdw]
  rw [u2_ne (by omega), u2_ne (by omega), u2_ne (by omega), u2_ne (by omega), u2_ne (by omega)]
theorem liw_r (f : wd) (k : Nat) (st : Int32) (r : Nat) (hr : r < 3 ∨ r = 4 ∨ 8 < r) : liw f k st r = f r := by
  simp only [liw]
  by_cases h1 : 0 < st
  · rw [if_pos h1]
    by_cases h2 : u2 f (2 + 4) k (mnI 9999 (f (2 + 4) k + 1)) (2 + 4) k < st
    · rw [if_pos h2, u2_ne (by omega)]
    · rw [if_neg h2, isdw_r _ _ _ hr, u2_ne (by omega)]
  · rw [if_neg h1, u2_ne (by omega)]
theorem liS_r (f g : wd) (i r : Nat) (hr : r < 3 ∨ r = 4 ∨ 8 < r) : itr (liS f) g i r = g r := by
  induction i with
  | zero => rfl
  | succ i ih =>
    rw [itr_s, liS]
    by_cases h : hsI (f 1 1) (nI i) = 0
    · rw [if_pos h, liw_r _ _ _ _ hr, ih]
    · rw [if_neg h, ih]
theorem psw1_r (f : wd) (i r : Nat) (hr : r ≠ 2 + 3) : psw1 f i r = f r := lnS_r _ _ _ _ _ _ hr
theorem psw2_r (f : wd) (i r : Nat) (hr : r < 3 ∨ r = 4 ∨ 8 < r) : psw2 f i r = f r := by
  unfold psw2
  rw [liS_r _ _ _ _ hr, psw1_r _ _ _ (by omega)]
theorem k_X0_gloveOf {l : Launch} {D : va_G} {L : Nat → Nat} {A : Nat → Prop} (x : cst) (k κ : Nat) (hκ : κ < 7) (hk : k < 8) (ek : x.1 0 (2 + 0) k = nI κ) : Met l yX0_gloveOf (ws_ yX0_gloveOf cX0_gloveOf 2 (some (.object "LeftGloves$Glove"))) ({ frames := 0, cells := 0, slots := 0, locals := 0 } : Room) (va_Pc [.ref (L 44), .int (nI k)] (pI D (cfC D L x) A)) (rQ (.ref (L (123 + (8 * κ + k))))) 0 0 nof := by
  refine met_I (by decide) rfl (Nat.le_of_ble_eq_true rfl) ?_
  intro p e s m below meth c ls hx hb hr hml hown hts hlocks hl hI hK
  have F : CallFix p m c cX0_gloveOf 2 s _ lw_all RX0 := ⟨hx, hb, hml, hown, hts⟩
  have hl : lv_has ls 2 [(0, .ref (L 44)), (1, .int (nI k))] := hl
  refine lv_aload_n hx hb dX0_gloveOf_0 rfl (lv_at hl 0 rfl) ?_
  refine r_get (C := RX0) (T := TX0) (N := 11) hx hb hts in_X0 hown hK hI (cf_main) rfl 7 (by decide) (hts _ q405) (fun _ h => h) rfl dX0_gloveOf_1 ?_
  refine lv_bipush (v := 8) hx hb dX0_gloveOf_4 (by decide) ?_
  refine lv_aload_n hx hb dX0_gloveOf_6 rfl (lv_at hl 0 rfl) ?_
  refine r_get (C := RX0) (T := TX0) (N := 11) hx hb hts in_X0 hown hK hI (cf_main) rfl 3 (by decide) (hts _ q401) (fun _ h => h) rfl dX0_gloveOf_7 ?_
  refine r_getN (C := RX4) (T := TX4) (N := 7) hx hb hts in_X4 hown hK hI (cf_W (w := 0) (by decide)) rfl 2 (by decide) (nf_7 hK) (fun _ h => h) rfl dX0_gloveOf_10 ?_
  refine lv_iconst (v := 0) hx hb dX0_gloveOf_13 (by decide) ?_
  refine n_aaldI (f := fun r => L (11 * 0 + 3 + r)) (k := 0) hx hb hK hI (cf_glove (w := 0) (by decide)) (rfl) (by decide) (by decide) dX0_gloveOf_14 ?_
  refine lv_iload_n hx hb dX0_gloveOf_15 rfl (lv_at hl 1 rfl) ?_
  refine n_iald (k := k) hx hb hK hI (cf_row (w := 0) (r := 0) (by decide) (by decide)) (rfl) (by omega) (by decide) dX0_gloveOf_16 ?_
  refine lv_imul hx hb dX0_gloveOf_17 ?_
  refine lv_iload_n hx hb dX0_gloveOf_18 rfl (lv_at hl 1 rfl) ?_
  refine lv_iadd hx hb dX0_gloveOf_19 ?_
  refine n_aaldS (f := fun k => L (67 + k)) (k := ((8 * κ) + k)) hx hb hK hI (cf_garr) (na_add (na_mul (rfl) (ek)) (rfl)) (by omega) (by decide) dX0_gloveOf_20 ?_
  refine r_getN (C := RX5) (T := TX5) (N := 1) hx hb hts in_X5 hown hK hI (cf_gsl (k := ((8 * κ) + k)) (by omega)) rfl 0 (by decide) (nf_16 hK) (fun _ h => h) rfl dX0_gloveOf_21 ?_
  refine r_castG hx hb hown (hts _ q390) hK hI hκ hk dX0_gloveOf_24 ?_
  exact W.aret hx hb hr (Or.inl ⟨_, rfl⟩) (Or.inr ⟨_, rfl⟩) (fun t ht _ => ⟨rfl, ht⟩) (fun q h => by cases h) dX0_gloveOf_27
theorem k_X0_finding {l : Launch} {D : va_G} {L : Nat → Nat} {A : Nat → Prop} (x : cst) (k : Nat) (hk : k < 7) : Met l yX0_finding (ws_ yX0_finding cX0_finding 2 (some .int)) ({ frames := 0, cells := 0, slots := 0, locals := 0 } : Room) (va_Pc [.ref (L 44), .int (nI k)] (pI D (cfC D L x) A)) (nQ D (cfC D L (fnd x k)) A (some (.int (-1000001 - nI k)))) 0 0 A := by
  refine met_I (by decide) rfl (Nat.le_of_ble_eq_true rfl) ?_
  intro p e s m below meth c ls hx hb hr hml hown hts hlocks hl hI hK
  have F : CallFix p m c cX0_finding 2 s _ lw_all RX0 := ⟨hx, hb, hml, hown, hts⟩
  have hl : lv_has ls 2 [(0, .ref (L 44)), (1, .int (nI k))] := hl
  have hS : va_S A s.heap s.heap [] := va_S.rf
  refine lv_aload_n hx hb dX0_finding_0 rfl (lv_at hl 0 rfl) ?_
  refine r_get (C := RX0) (T := TX0) (N := 11) hx hb hts in_X0 hown hK hI (cf_main) rfl 10 (by decide) (hts _ q408) (fun _ h => h) rfl dX0_finding_1 ?_
  refine lv_iload_n hx hb dX0_finding_4 rfl (lv_at hl 1 rfl) ?_
  refine lv_dup2_11 hx hb dX0_finding_5 rfl rfl ?_
  refine n_iald (k := k) hx hb hK hI (cf_find) (rfl) (by omega) (by decide) dX0_finding_6 ?_
  refine lv_iconst (v := 1) hx hb dX0_finding_7 (by decide) ?_
  refine lv_iadd hx hb dX0_finding_8 ?_
  obtain ⟨x1, ex1⟩ : ∃ z, z = xr x 3 k ((x.2.1 3 k) + (1 : Int32)) := ⟨_, rfl⟩
  refine n_iast (cf' := cfC D L x1) (k := k) hx hb hK hI hS (cf_find) (rfl) (by omega) (by decide) (by rw [ex1]; exact cs_find) dX0_finding_9 (fun H1 locs1 hI hS => ?_)
  refine lv_ldc (v := (-1000001)) hx hb hown (hts _ q461) dX0_finding_10 ?_
  refine lv_iload_n hx hb dX0_finding_12 rfl (lv_at hl 1 rfl) ?_
  refine lv_isub hx hb dX0_finding_13 ?_
  exact W.iret hx hb hr (fun t ht _ => ⟨rI (rfl), by rw [ht]; exact hw_eq hI (congrArg (cfC D L) (ex1)), hS.F ht⟩) hS.2.2 dX0_finding_14
theorem k_X0_isGlove {l : Launch} {D : va_G} {L : Nat → Nat} {A : Nat → Prop} (x : cst) (v : Int32) : Met l yX0_isGlove (ws_ yX0_isGlove cX0_isGlove 2 (some .boolean)) ({ frames := 1, cells := 0, slots := 0, locals := 22 } : Room) (va_Pc [.ref (L 44), .int v] (pI D (cfC D L x) A)) (rQ (.int (isGlI (x.1 0) v))) 0 0 nof := by
  refine met_I (by decide) rfl (Nat.le_of_ble_eq_true rfl) ?_
  intro p e s m below meth c ls hx hb hr hml hown hts hlocks hl hI hK
  have F : CallFix p m c cX0_isGlove 2 s _ lw_all RX0 := ⟨hx, hb, hml, hown, hts⟩
  have hl : lv_has ls 2 [(0, .ref (L 44)), (1, .int v)] := hl
  refine lv_iload_n hx hb dX0_isGlove_0 rfl (lv_at hl 1 rfl) ?_
  refine lv_iconst (v := 0) hx hb dX0_isGlove_1 (by decide) ?_
  refine lv_aload_n hx hb dX0_isGlove_2 rfl (lv_at hl 0 rfl) ?_
  refine r_get (C := RX0) (T := TX0) (N := 11) hx hb hts in_X0 hown hK hI (cf_main) rfl 3 (by decide) (hts _ q401) (fun _ h => h) rfl dX0_isGlove_3 ?_
  refine r_getN (C := RX4) (T := TX4) (N := 7) hx hb hts in_X4 hown hK hI (cf_W (w := 0) (by decide)) rfl 1 (by decide) (nf_4 hK) (fun _ h => h) rfl dX0_isGlove_6 ?_
  refine lv_iconst (v := 1) hx hb dX0_isGlove_9 (by decide) ?_
  refine lv_isub hx hb dX0_isGlove_10 ?_
  refine c_r (k_S (As := [.int v, .int 0, .int ((x.1 0 1 0) - (1 : Int32))]) (rest := []) F (k_X0_in v 0 ((x.1 0 1 0) - (1 : Int32))) (va_cwS 3 hts (lw_S q439 q440 q91 q441) rfl rfl rfl (by decide +kernel) ⟨Nat.le_of_ble_eq_true rfl, Nat.le_of_ble_eq_true rfl⟩) rfl hl.1 rfl (Nat.le_of_ble_eq_true rfl) dX0_isGlove_11 ⟨Nat.le_of_ble_eq_true rfl, Nat.le_of_ble_eq_true rfl⟩) ?_
  exact W.zret hx hb hr (t_bl2 (inI_01 _ _ _)) (fun t ht _ => ⟨rI (rfl), ht⟩) (fun q h => by cases h) dX0_isGlove_14
theorem k_X0_hushedIn {l : Launch} {D : va_G} {L : Nat → Nat} {A : Nat → Prop} (x : cst) (hO : wOk (x.1 0)) (room : Int32) : Met l yX0_hushedIn (ws_ yX0_hushedIn cX0_hushedIn 5 (some .int)) ({ frames := 2, cells := 0, slots := 0, locals := 44 } : Room) (va_Pc [.ref (L 44), .int room] (pI D (cfC D L x) A)) (rQ (.int (hiI (x.1 0) room))) 0 0 nof := by
  refine met_I (by decide) rfl (Nat.le_of_ble_eq_true rfl) ?_
  intro p e s m below meth c ls hx hb hr hml hown hts hlocks hl hI hK
  have F : CallFix p m c cX0_hushedIn 5 s _ lw_all RX0 := ⟨hx, hb, hml, hown, hts⟩
  have hl : lv_has ls 5 [(0, .ref (L 44)), (1, .int room)] := hl
  obtain ⟨n, hn, h8⟩ : ∃ n, x.1 0 1 0 = nI n ∧ n ≤ 8 := ⟨_, hO.n⟩
  have hN : wN (x.1 0) = n := by unfold wN; rw [hn, nI_clamp (by omega)]
  refine lv_aload_n hx hb dX0_hushedIn_0 rfl (lv_at hl 0 rfl) ?_
  refine r_get (C := RX0) (T := TX0) (N := 11) hx hb hts in_X0 hown hK hI (cf_main) rfl 3 (by decide) (hts _ q401) (fun _ h => h) rfl dX0_hushedIn_1 ?_
  refine lv_iload_n hx hb dX0_hushedIn_4 rfl (lv_at hl 1 rfl) ?_
  refine c_r (k_V (As := [.int room]) (rest := []) F (k_X4_whatIsIn x 0 (by decide) (hO) room) (cwV 1 hts (lw_V q470 q471 q472 q98 q473) rfl rfl rfl (by decide +kernel) ⟨Nat.le_of_ble_eq_true rfl, Nat.le_of_ble_eq_true rfl⟩) hI hK (hw.recv hI hK (cf_W (w := 0) (by decide)) rfl) rfl hl.1 rfl (Nat.le_of_ble_eq_true rfl) dX0_hushedIn_5 ⟨Nat.le_of_ble_eq_true rfl, Nat.le_of_ble_eq_true rfl⟩) ?_
  refine lv_istore_n (lv' := [(2, .int (whI (x.1 0) room)), (0, .ref (L 44)), (1, .int room)]) hx hb dX0_hushedIn_8 rfl hl (by decide) rfl (fun ls hl => ?_)
  refine lv_iconst (v := 0) hx hb dX0_hushedIn_9 (by decide) ?_
  refine lv_istore_n (lv' := [(3, .int 0), (2, .int (whI (x.1 0) room)), (0, .ref (L 44)), (1, .int room)]) hx hb dX0_hushedIn_10 rfl hl (by decide) rfl (fun ls hl => ?_)
  refine lv_iconst (v := 0) hx hb dX0_hushedIn_11 (by decide) ?_
  refine lv_istore (lv' := [(4, .int 0), (3, .int 0), (2, .int (whI (x.1 0) room)), (0, .ref (L 44)), (1, .int room)]) hx hb dX0_hushedIn_12 hl (by decide) rfl (fun ls hl => ?_)
  have lp14 : ∀ (fuel : Nat) (i : Nat), (i ≤ n) → n - i < fuel → ∀ (v3 : Int32) (v4 : Int32), v3 = itr (hiS (x.1 0) (whI (x.1 0) room)) 0 i → v4 = nI i → ∀ (ls : Array Slot), lv_has ls 5 [(0, .ref (L 44)), (1, .int room), (2, .int (whI (x.1 0) room)), (3, .int v3), (4, .int v4)] → W p l e ({ frames := 2, cells := 0, slots := 0, locals := 44 } : Room) s m ([.ref (L 44), .int room] : List Value).toArray below meth c s.heap [] 0 0 (MQ below (rQ (.int (hiI (x.1 0) room))) ([.ref (L 44), .int room] : List Value).toArray s 0 0 nof) (F0 m 14 ls []) := by
    intro fuel
    induction fuel with
    | zero => intro i hi hf; exact absurd hf (Nat.not_lt_zero _)
    | succ fuel ih14 =>
      intro i hi hf14 v3 v4 e3 e4  ls hl
      subst e3 e4
      refine lv_iload hx hb dX0_hushedIn_14 (lv_at hl 4 rfl) ?_
      refine lv_aload_n hx hb dX0_hushedIn_16 rfl (lv_at hl 0 rfl) ?_
      refine r_get (C := RX0) (T := TX0) (N := 11) hx hb hts in_X0 hown hK hI (cf_main) rfl 3 (by decide) (hts _ q401) (fun _ h => h) rfl dX0_hushedIn_17 ?_
      refine r_getN (C := RX4) (T := TX4) (N := 7) hx hb hts in_X4 hown hK hI (cf_W (w := 0) (by decide)) rfl 1 (by decide) (nf_4 hK) (fun _ h => h) rfl dX0_hushedIn_20 ?_
      refine lv_icmp_ge (tgt := 57) hx hb dX0_hushedIn_23 (by decide) (fun c_23 => ?_) (fun c_23 => ?_)
      · skip
        have c_23 : n ≤ i := (nle (a := n) (b := i) (hn) (rfl) (by omega) (by omega)).mp c_23
        refine lv_iload_n hx hb dX0_hushedIn_57 rfl (lv_at hl 3 rfl) ?_
        exact W.iret hx hb hr (fun t ht _ => ⟨rI (by rw [hiI, hN, show i = n by omega]), ht⟩) (fun q h => by cases h) dX0_hushedIn_58
      · skip
        have c_23 : ¬ n ≤ i := fun z => c_23 ((nle (a := n) (b := i) (hn) (rfl) (by omega) (by omega)).mpr z)
        refine lv_iload_n hx hb dX0_hushedIn_26 rfl (lv_at hl 3 rfl) ?_
        refine lv_iload_n hx hb dX0_hushedIn_27 rfl (lv_at hl 2 rfl) ?_
        refine lv_iload hx hb dX0_hushedIn_28 (lv_at hl 4 rfl) ?_
        refine c_r (k_S (As := [.int (whI (x.1 0) room), .int (nI i)]) (rest := [.int (itr (hiS (x.1 0) (whI (x.1 0) room)) 0 i)]) F (k_X0_has (whI (x.1 0) room) (nI i)) (va_cwS 2 hts (lw_S q481 q475 q91 q476) rfl rfl rfl (by decide +kernel) ⟨Nat.le_of_ble_eq_true rfl, Nat.le_of_ble_eq_true rfl⟩) rfl hl.1 rfl (Nat.le_of_ble_eq_true rfl) dX0_hushedIn_30 ⟨Nat.le_of_ble_eq_true rfl, Nat.le_of_ble_eq_true rfl⟩) ?_
        refine lv_if_eq (tgt := 48) hx hb dX0_hushedIn_33 (by decide) (fun c_33 => ?_) (fun c_33 => ?_)
        · skip
          refine lv_iconst (v := 0) hx hb dX0_hushedIn_48 (by decide) ?_
          refine lv_iadd hx hb dX0_hushedIn_49 ?_
          refine lv_istore_n (lv' := [(3, .int ((itr (hiS (x.1 0) (whI (x.1 0) room)) 0 i) + (0 : Int32))), (0, .ref (L 44)), (1, .int room), (2, .int (whI (x.1 0) room)), (4, .int (nI i))]) hx hb dX0_hushedIn_50 rfl hl (by decide) rfl (fun ls hl => ?_)
          refine lv_iinc (v := (nI (i + 1))) (lv' := [(4, .int (nI (i + 1))), (3, .int ((itr (hiS (x.1 0) (whI (x.1 0) room)) 0 i) + (0 : Int32))), (0, .ref (L 44)), (1, .int room), (2, .int (whI (x.1 0) room))]) hx hb dX0_hushedIn_51 hl (k := 4) rfl (nI_1 _) (by decide) rfl (fun ls hl => ?_)
          refine lv_goto (tgt := 14) hx hb dX0_hushedIn_54 (by decide) ?_
          exact ih14 (i + 1) (by omega) (by omega) ((itr (hiS (x.1 0) (whI (x.1 0) room)) 0 i) + (0 : Int32)) (nI (i + 1)) (by rw [itr_s]; simp [hiS, c_23, c_33]) (rfl) ls (lv_sub hl [2, 3, 4, 1, 0] rfl)
        · skip
          refine lv_aload_n hx hb dX0_hushedIn_36 rfl (lv_at hl 0 rfl) ?_
          refine lv_iload hx hb dX0_hushedIn_37 (lv_at hl 4 rfl) ?_
          refine c_r (k_V (As := [.int (nI i)]) (rest := [.int (itr (hiS (x.1 0) (whI (x.1 0) room)) 0 i)]) F (k_X0_gloveOf x i (kN (x.1 0) i) (hO.k (k := i) (by omega)).2 (by omega) ((hO.k (k := i) (by omega)).1)) (cwV 1 hts (lw_V q482 q484 qs4 q91 q485) rfl rfl rfl (by decide +kernel) ⟨Nat.le_of_ble_eq_true rfl, Nat.le_of_ble_eq_true rfl⟩) hI hK (hw.recv hI hK (cf_main) rfl) rfl hl.1 rfl (Nat.le_of_ble_eq_true rfl) dX0_hushedIn_39 ⟨Nat.le_of_ble_eq_true rfl, Nat.le_of_ble_eq_true rfl⟩) ?_
          refine c_r (run_hushes (rest := [.int (itr (hiS (x.1 0) (whI (x.1 0) room)) 0 i)]) F (hO.k (k := i) (by omega)).2 (by omega) hI hK hl.1 (Nat.le_of_ble_eq_true rfl) dX0_hushedIn_42 ⟨Nat.le_of_ble_eq_true rfl, Nat.le_of_ble_eq_true rfl⟩ ⟨Nat.le_of_ble_eq_true rfl, Nat.le_of_ble_eq_true rfl⟩) ?_
          refine lv_goto (tgt := 49) hx hb dX0_hushedIn_45 (by decide) ?_
          refine lv_iadd hx hb dX0_hushedIn_49 ?_
          refine lv_istore_n (lv' := [(3, .int ((itr (hiS (x.1 0) (whI (x.1 0) room)) 0 i) + (huI (x.1 0) (kN (x.1 0) i) i))), (0, .ref (L 44)), (1, .int room), (2, .int (whI (x.1 0) room)), (4, .int (nI i))]) hx hb dX0_hushedIn_50 rfl hl (by decide) rfl (fun ls hl => ?_)
          refine lv_iinc (v := (nI (i + 1))) (lv' := [(4, .int (nI (i + 1))), (3, .int ((itr (hiS (x.1 0) (whI (x.1 0) room)) 0 i) + (huI (x.1 0) (kN (x.1 0) i) i))), (0, .ref (L 44)), (1, .int room), (2, .int (whI (x.1 0) room))]) hx hb dX0_hushedIn_51 hl (k := 4) rfl (nI_1 _) (by decide) rfl (fun ls hl => ?_)
          refine lv_goto (tgt := 14) hx hb dX0_hushedIn_54 (by decide) ?_
          exact ih14 (i + 1) (by omega) (by omega) ((itr (hiS (x.1 0) (whI (x.1 0) room)) 0 i) + (huI (x.1 0) (kN (x.1 0) i) i)) (nI (i + 1)) (by rw [itr_s]; simp [hiS, c_23, c_33]) (rfl) ls (lv_sub hl [2, 3, 4, 1, 0] rfl)
  exact lp14 (_ + 1) (0) (Nat.zero_le _) (Nat.lt_succ_self _) 0 0 (rfl) (rfl) ls (lv_sub hl [3, 4, 2, 1, 0] rfl)
theorem k_X0_hearers {l : Launch} {D : va_G} {L : Nat → Nat} {A : Nat → Prop} (x : cst) (hO : wOk (x.1 0)) (sy : Int32) : Met l yX0_hearers (ws_ yX0_hearers cX0_hearers 6 (some .int)) ({ frames := 4, cells := 0, slots := 0, locals := 82 } : Room) (va_Pc [.ref (L 44), .int sy] (pI D (cfC D L x) A)) (rQ (.int (heI (x.1 0) sy))) 0 0 nof := by
  refine met_I (by decide) rfl (Nat.le_of_ble_eq_true rfl) ?_
  intro p e s m below meth c ls hx hb hr hml hown hts hlocks hl hI hK
  have F : CallFix p m c cX0_hearers 6 s _ lw_all RX0 := ⟨hx, hb, hml, hown, hts⟩
  have hl : lv_has ls 6 [(0, .ref (L 44)), (1, .int sy)] := hl
  obtain ⟨n, hn, h8⟩ : ∃ n, x.1 0 1 0 = nI n ∧ n ≤ 8 := ⟨_, hO.n⟩
  have hN : wN (x.1 0) = n := by unfold wN; rw [hn, nI_clamp (by omega)]
  refine lv_iconst (v := 0) hx hb dX0_hearers_0 (by decide) ?_
  refine lv_iload_n hx hb dX0_hearers_1 rfl (lv_at hl 1 rfl) ?_
  refine c_r (k_S (As := [.int sy]) (rest := [.int 0]) F (k_X0_loudOf sy) (va_cwS 1 hts (lw_S q725 q726 q91 q727) rfl rfl rfl (by decide +kernel) ⟨Nat.le_of_ble_eq_true rfl, Nat.le_of_ble_eq_true rfl⟩) rfl hl.1 rfl (Nat.le_of_ble_eq_true rfl) dX0_hearers_2 ⟨Nat.le_of_ble_eq_true rfl, Nat.le_of_ble_eq_true rfl⟩) ?_
  refine lv_aload_n hx hb dX0_hearers_5 rfl (lv_at hl 0 rfl) ?_
  refine lv_iload_n hx hb dX0_hearers_6 rfl (lv_at hl 1 rfl) ?_
  refine c_r (k_S (As := [.int sy]) (rest := [.ref (L 44), .int (ldI sy), .int 0]) F (k_X0_roomOf sy) (va_cwS 1 hts (lw_S q445 q446 q91 q447) rfl rfl rfl (by decide +kernel) ⟨Nat.le_of_ble_eq_true rfl, Nat.le_of_ble_eq_true rfl⟩) rfl hl.1 rfl (Nat.le_of_ble_eq_true rfl) dX0_hearers_7 ⟨Nat.le_of_ble_eq_true rfl, Nat.le_of_ble_eq_true rfl⟩) ?_
  refine c_r (k_V (As := [.int (rmI sy)]) (rest := [.int (ldI sy), .int 0]) F (k_X0_hushedIn x (hO) (rmI sy)) (cwV 1 hts (lw_V q477 q479 qs3 q91 q480) rfl rfl rfl (by decide +kernel) ⟨Nat.le_of_ble_eq_true rfl, Nat.le_of_ble_eq_true rfl⟩) hI hK (hw.recv hI hK (cf_main) rfl) rfl hl.1 rfl (Nat.le_of_ble_eq_true rfl) dX0_hearers_10 ⟨Nat.le_of_ble_eq_true rfl, Nat.le_of_ble_eq_true rfl⟩) ?_
  refine lv_isub hx hb dX0_hearers_13 ?_
  refine va_mmax hx hb (by rw [hml]; exact hl.1.symm) hown (hts _ q728) (hts _ q595) (hts _ q108) (hts _ q596) (Nat.le_of_ble_eq_true rfl) (Nat.le_of_ble_eq_true rfl) (Nat.le_of_ble_eq_true rfl) (Nat.le_of_ble_eq_true rfl) dX0_hearers_14 ?_
  refine lv_istore_n (lv' := [(2, .int (lodI (x.1 0) sy)), (0, .ref (L 44)), (1, .int sy)]) hx hb dX0_hearers_17 rfl hl (by decide) rfl (fun ls hl => ?_)
  refine lv_aload_n hx hb dX0_hearers_18 rfl (lv_at hl 1 rfl) ?_
  refine r_get (C := RX0) (T := TX0) (N := 11) hx hb hts in_X0 hown hK hI (cf_main) rfl 3 (by decide) (hts _ q401) (fun _ h => h) rfl dX0_hearers_19 ?_
  refine lv_iload_n hx hb dX0_hearers_22 rfl (lv_at hl 2 rfl) ?_
  refine c_r (k_S (As := [.int sy]) (rest := [.ref (L (11 * 0))]) F (k_X0_roomOf sy) (va_cwS 1 hts (lw_S q445 q446 q91 q447) rfl rfl rfl (by decide +kernel) ⟨Nat.le_of_ble_eq_true rfl, Nat.le_of_ble_eq_true rfl⟩) rfl hl.1 rfl (Nat.le_of_ble_eq_true rfl) dX0_hearers_23 ⟨Nat.le_of_ble_eq_true rfl, Nat.le_of_ble_eq_true rfl⟩) ?_
  refine c_r (k_V (As := [.int (rmI sy)]) (rest := []) F (k_X4_whatIsIn x 0 (by decide) (hO) (rmI sy)) (cwV 1 hts (lw_V q470 q471 q472 q98 q473) rfl rfl rfl (by decide +kernel) ⟨Nat.le_of_ble_eq_true rfl, Nat.le_of_ble_eq_true rfl⟩) hI hK (hw.recv hI hK (cf_W (w := 0) (by decide)) rfl) rfl hl.1 rfl (Nat.le_of_ble_eq_true rfl) dX0_hearers_26 ⟨Nat.le_of_ble_eq_true rfl, Nat.le_of_ble_eq_true rfl⟩) ?_
  refine lv_istore_n (lv' := [(3, .int (whI (x.1 0) (rmI sy))), (2, .int (lodI (x.1 0) sy)), (0, .ref (L 44)), (1, .int sy)]) hx hb dX0_hearers_29 rfl hl (by decide) rfl (fun ls hl => ?_)
  refine lv_iconst (v := 0) hx hb dX0_hearers_30 (by decide) ?_
  refine lv_istore (lv' := [(4, .int 0), (3, .int (whI (x.1 0) (rmI sy))), (2, .int (lodI (x.1 0) sy)), (0, .ref (L 44)), (1, .int sy)]) hx hb dX0_hearers_31 hl (by decide) rfl (fun ls hl => ?_)
  refine lv_iconst (v := 0) hx hb dX0_hearers_33 (by decide) ?_
  refine lv_istore (lv' := [(5, .int 0), (4, .int 0), (3, .int (whI (x.1 0) (rmI sy))), (2, .int (lodI (x.1 0) sy)), (0, .ref (L 44)), (1, .int sy)]) hx hb dX0_hearers_34 hl (by decide) rfl (fun ls hl => ?_)
  have lp36 : ∀ (fuel : Nat) (i : Nat), (i ≤ n) → n - i < fuel → ∀ (v4 : Int32) (v5 : Int32), v4 = itr (heS (x.1 0) (whI (x.1 0) (rmI sy)) (lodI (x.1 0) sy)) 0 i → v5 = nI i → ∀ (ls : Array Slot), lv_has ls 6 [(0, .ref (L 44)), (1, .int sy), (2, .int (lodI (x.1 0) sy)), (3, .int (whI (x.1 0) (rmI sy))), (4, .int v4), (5, .int v5)] → W p l e ({ frames := 4, cells := 0, slots := 0, locals := 82 } : Room) s m ([.ref (L 44), .int sy] : List Value).toArray below meth c s.heap [] 0 0 (MQ below (rQ (.int (heI (x.1 0) sy))) ([.ref (L 44), .int sy] : List Value).toArray s 0 0 nof) (F0 m 36 ls []) := by
    intro fuel
    induction fuel with
    | zero => intro i hi hf; exact absurd hf (Nat.not_lt_zero _)
    | succ fuel ih36 =>
      intro i hi hf36 v4 v5 e4 e5  ls hl
      subst e4 e5
      refine lv_iload hx hb dX0_hearers_36 (lv_at hl 5 rfl) ?_
      refine lv_aload_n hx hb dX0_hearers_38 rfl (lv_at hl 0 rfl) ?_
      refine r_get (C := RX0) (T := TX0) (N := 11) hx hb hts in_X0 hown hK hI (cf_main) rfl 3 (by decide) (hts _ q401) (fun _ h => h) rfl dX0_hearers_39 ?_
      refine r_getN (C := RX4) (T := TX4) (N := 7) hx hb hts in_X4 hown hK hI (cf_W (w := 0) (by decide)) rfl 1 (by decide) (nf_4 hK) (fun _ h => h) rfl dX0_hearers_42 ?_
      refine lv_icmp_ge (tgt := 89) hx hb dX0_hearers_45 (by decide) (fun c_45 => ?_) (fun c_45 => ?_)
      · skip
        have c_45 : n ≤ i := (nle (a := n) (b := i) (hn) (rfl) (by omega) (by omega)).mp c_45
        refine lv_iload hx hb dX0_hearers_89 (lv_at hl 4 rfl) ?_
        exact W.iret hx hb hr (fun t ht _ => ⟨rI (by rw [heI, hN, show i = n by omega]), ht⟩) (fun q h => by cases h) dX0_hearers_91
      · skip
        have c_45 : ¬ n ≤ i := fun z => c_45 ((nle (a := n) (b := i) (hn) (rfl) (by omega) (by omega)).mpr z)
        refine lv_iload hx hb dX0_hearers_48 (lv_at hl 4 rfl) ?_
        refine lv_iload_n hx hb dX0_hearers_50 rfl (lv_at hl 3 rfl) ?_
        refine lv_iload hx hb dX0_hearers_51 (lv_at hl 5 rfl) ?_
        refine c_r (k_S (As := [.int (whI (x.1 0) (rmI sy)), .int (nI i)]) (rest := [.int (itr (heS (x.1 0) (whI (x.1 0) (rmI sy)) (lodI (x.1 0) sy)) 0 i)]) F (k_X0_has (whI (x.1 0) (rmI sy)) (nI i)) (va_cwS 2 hts (lw_S q481 q475 q91 q476) rfl rfl rfl (by decide +kernel) ⟨Nat.le_of_ble_eq_true rfl, Nat.le_of_ble_eq_true rfl⟩) rfl hl.1 rfl (Nat.le_of_ble_eq_true rfl) dX0_hearers_53 ⟨Nat.le_of_ble_eq_true rfl, Nat.le_of_ble_eq_true rfl⟩) ?_
        refine lv_if_eq (tgt := 79) hx hb dX0_hearers_56 (by decide) (fun c_56 => ?_) (fun c_56 => ?_)
        · skip
          refine lv_iconst (v := 0) hx hb dX0_hearers_79 (by decide) ?_
          refine lv_ior hx hb dX0_hearers_80 ?_
          refine lv_istore (lv' := [(4, .int ((itr (heS (x.1 0) (whI (x.1 0) (rmI sy)) (lodI (x.1 0) sy)) 0 i) ||| (0 : Int32))), (0, .ref (L 44)), (1, .int sy), (2, .int (lodI (x.1 0) sy)), (3, .int (whI (x.1 0) (rmI sy))), (5, .int (nI i))]) hx hb dX0_hearers_81 hl (by decide) rfl (fun ls hl => ?_)
          refine lv_iinc (v := (nI (i + 1))) (lv' := [(5, .int (nI (i + 1))), (4, .int ((itr (heS (x.1 0) (whI (x.1 0) (rmI sy)) (lodI (x.1 0) sy)) 0 i) ||| (0 : Int32))), (0, .ref (L 44)), (1, .int sy), (2, .int (lodI (x.1 0) sy)), (3, .int (whI (x.1 0) (rmI sy)))]) hx hb dX0_hearers_83 hl (k := 5) rfl (nI_1 _) (by decide) rfl (fun ls hl => ?_)
          refine lv_goto (tgt := 36) hx hb dX0_hearers_86 (by decide) ?_
          exact ih36 (i + 1) (by omega) (by omega) ((itr (heS (x.1 0) (whI (x.1 0) (rmI sy)) (lodI (x.1 0) sy)) 0 i) ||| (0 : Int32)) (nI (i + 1)) (by rw [itr_s]; simp [heS, b1, c_45, c_56]) (rfl) ls (lv_sub hl [2, 3, 4, 5, 1, 0] rfl)
        · skip
          refine lv_aload_n hx hb dX0_hearers_59 rfl (lv_at hl 0 rfl) ?_
          refine lv_iload hx hb dX0_hearers_60 (lv_at hl 5 rfl) ?_
          refine c_r (k_V (As := [.int (nI i)]) (rest := [.int (itr (heS (x.1 0) (whI (x.1 0) (rmI sy)) (lodI (x.1 0) sy)) 0 i)]) F (k_X0_gloveOf x i (kN (x.1 0) i) (hO.k (k := i) (by omega)).2 (by omega) ((hO.k (k := i) (by omega)).1)) (cwV 1 hts (lw_V q482 q484 qs4 q91 q485) rfl rfl rfl (by decide +kernel) ⟨Nat.le_of_ble_eq_true rfl, Nat.le_of_ble_eq_true rfl⟩) hI hK (hw.recv hI hK (cf_main) rfl) rfl hl.1 rfl (Nat.le_of_ble_eq_true rfl) dX0_hearers_62 ⟨Nat.le_of_ble_eq_true rfl, Nat.le_of_ble_eq_true rfl⟩) ?_
          refine c_r (run_needs (rest := [.int (itr (heS (x.1 0) (whI (x.1 0) (rmI sy)) (lodI (x.1 0) sy)) 0 i)]) F (hO.k (k := i) (by omega)).2 (by omega) hI hK (hO) hl.1 (Nat.le_of_ble_eq_true rfl) dX0_hearers_65 ⟨Nat.le_of_ble_eq_true rfl, Nat.le_of_ble_eq_true rfl⟩ ⟨Nat.le_of_ble_eq_true rfl, Nat.le_of_ble_eq_true rfl⟩) ?_
          refine lv_iload_n hx hb dX0_hearers_68 rfl (lv_at hl 2 rfl) ?_
          refine lv_icmp_gt (tgt := 79) hx hb dX0_hearers_69 (by decide) (fun c_69 => ?_) (fun c_69 => ?_)
          · skip
            refine lv_iconst (v := 0) hx hb dX0_hearers_79 (by decide) ?_
            refine lv_ior hx hb dX0_hearers_80 ?_
            refine lv_istore (lv' := [(4, .int ((itr (heS (x.1 0) (whI (x.1 0) (rmI sy)) (lodI (x.1 0) sy)) 0 i) ||| (0 : Int32))), (0, .ref (L 44)), (1, .int sy), (2, .int (lodI (x.1 0) sy)), (3, .int (whI (x.1 0) (rmI sy))), (5, .int (nI i))]) hx hb dX0_hearers_81 hl (by decide) rfl (fun ls hl => ?_)
            refine lv_iinc (v := (nI (i + 1))) (lv' := [(5, .int (nI (i + 1))), (4, .int ((itr (heS (x.1 0) (whI (x.1 0) (rmI sy)) (lodI (x.1 0) sy)) 0 i) ||| (0 : Int32))), (0, .ref (L 44)), (1, .int sy), (2, .int (lodI (x.1 0) sy)), (3, .int (whI (x.1 0) (rmI sy)))]) hx hb dX0_hearers_83 hl (k := 5) rfl (nI_1 _) (by decide) rfl (fun ls hl => ?_)
            refine lv_goto (tgt := 36) hx hb dX0_hearers_86 (by decide) ?_
            exact ih36 (i + 1) (by omega) (by omega) ((itr (heS (x.1 0) (whI (x.1 0) (rmI sy)) (lodI (x.1 0) sy)) 0 i) ||| (0 : Int32)) (nI (i + 1)) (by rw [itr_s]; simp [heS, b1, c_45, c_56, c_69]) (rfl) ls (lv_sub hl [2, 3, 4, 5, 1, 0] rfl)
          · skip
            refine lv_iconst (v := 1) hx hb dX0_hearers_72 (by decide) ?_
            refine lv_iload hx hb dX0_hearers_73 (lv_at hl 5 rfl) ?_
            refine lv_ishl hx hb dX0_hearers_75 ?_
            refine lv_goto (tgt := 80) hx hb dX0_hearers_76 (by decide) ?_
            refine lv_ior hx hb dX0_hearers_80 ?_
            refine lv_istore (lv' := [(4, .int ((itr (heS (x.1 0) (whI (x.1 0) (rmI sy)) (lodI (x.1 0) sy)) 0 i) ||| ((1 : Int32) <<< ((nI i) &&& 31)))), (0, .ref (L 44)), (1, .int sy), (2, .int (lodI (x.1 0) sy)), (3, .int (whI (x.1 0) (rmI sy))), (5, .int (nI i))]) hx hb dX0_hearers_81 hl (by decide) rfl (fun ls hl => ?_)
            refine lv_iinc (v := (nI (i + 1))) (lv' := [(5, .int (nI (i + 1))), (4, .int ((itr (heS (x.1 0) (whI (x.1 0) (rmI sy)) (lodI (x.1 0) sy)) 0 i) ||| ((1 : Int32) <<< ((nI i) &&& 31)))), (0, .ref (L 44)), (1, .int sy), (2, .int (lodI (x.1 0) sy)), (3, .int (whI (x.1 0) (rmI sy)))]) hx hb dX0_hearers_83 hl (k := 5) rfl (nI_1 _) (by decide) rfl (fun ls hl => ?_)
            refine lv_goto (tgt := 36) hx hb dX0_hearers_86 (by decide) ?_
            exact ih36 (i + 1) (by omega) (by omega) ((itr (heS (x.1 0) (whI (x.1 0) (rmI sy)) (lodI (x.1 0) sy)) 0 i) ||| ((1 : Int32) <<< ((nI i) &&& 31))) (nI (i + 1)) (by rw [itr_s]; simp [heS, b1, c_45, c_56, c_69]) (rfl) ls (lv_sub hl [2, 3, 4, 5, 1, 0] rfl)
  exact lp36 (_ + 1) (0) (Nat.zero_le _) (Nat.lt_succ_self _) 0 0 (rfl) (rfl) ls (lv_sub hl [4, 5, 3, 2, 1, 0] rfl)
set_option maxHeartbeats 4000000 in
theorem k_X0_passes_2 {l : Launch} {D : va_G} {L : Nat → Nat} {A : Nat → Prop} (x : cst) (hO : wOk (x.1 0)) : Met l yX0_passes_2 (ws_ yX0_passes_2 cX0_passes_2 4 none) ({ frames := 5, cells := 0, slots := 0, locals := 107 } : Room) (va_Pc [.ref (L 44)] (pI D (cfC D L x) A)) (nQ D (cfC D L (xs x 0 (psw (x.1 0)))) A none) 0 0 A := by
  refine met_I (by decide) rfl (Nat.le_of_ble_eq_true rfl) ?_
  intro p e s m below meth c ls hx hb hr hml hown hts hlocks hl hI hK
  have F : CallFix p m c cX0_passes_2 4 s _ lw_all RX0 := ⟨hx, hb, hml, hown, hts⟩
  have hl : lv_has ls 4 [(0, .ref (L 44))] := hl
  have hS : va_S A s.heap s.heap [] := va_S.rf
  obtain ⟨n, hn, h8⟩ : ∃ n, x.1 0 1 0 = nI n ∧ n ≤ 8 := ⟨_, hO.n⟩
  have hN : wN (x.1 0) = n := by unfold wN; rw [hn, nI_clamp (by omega)]
  refine lv_aload_n hx hb dX0_passes_2_0 rfl (lv_at hl 0 rfl) ?_
  refine r_get (C := RX0) (T := TX0) (N := 11) hx hb hts in_X0 hown hK hI (cf_main) rfl 3 (by decide) (hts _ q401) (fun _ h => h) rfl dX0_passes_2_1 ?_
  refine c_r (k_V (As := []) (rest := []) F (k_X4_now x 0 (by decide) (hO)) (cwV 0 hts (lw_V q717 q718 q719 q98 q720) rfl rfl rfl (by decide +kernel) ⟨Nat.le_of_ble_eq_true rfl, Nat.le_of_ble_eq_true rfl⟩) hI hK (hw.recv hI hK (cf_W (w := 0) (by decide)) rfl) rfl hl.1 rfl (Nat.le_of_ble_eq_true rfl) dX0_passes_2_4 ⟨Nat.le_of_ble_eq_true rfl, Nat.le_of_ble_eq_true rfl⟩) ?_
  refine lv_istore_n (lv' := [(1, .int (nwI (x.1 0))), (0, .ref (L 44))]) hx hb dX0_passes_2_7 rfl hl (by decide) rfl (fun ls hl => ?_)
  refine lv_aload_n hx hb dX0_passes_2_8 rfl (lv_at hl 1 rfl) ?_
  refine lv_iload_n hx hb dX0_passes_2_9 rfl (lv_at hl 0 rfl) ?_
  refine c_r (k_V (As := [.int (nwI (x.1 0))]) (rest := []) F (k_X0_hearers x (hO) (nwI (x.1 0))) (cwV 1 hts (lw_V q721 q723 qs10 q91 q724) rfl rfl rfl (by decide +kernel) ⟨Nat.le_of_ble_eq_true rfl, Nat.le_of_ble_eq_true rfl⟩) hI hK (hw.recv hI hK (cf_main) rfl) rfl hl.1 rfl (Nat.le_of_ble_eq_true rfl) dX0_passes_2_10 ⟨Nat.le_of_ble_eq_true rfl, Nat.le_of_ble_eq_true rfl⟩) ?_
  refine lv_istore_n (lv' := [(2, .int (heI (x.1 0) (nwI (x.1 0)))), (1, .int (nwI (x.1 0))), (0, .ref (L 44))]) hx hb dX0_passes_2_13 rfl hl (by decide) rfl (fun ls hl => ?_)
  refine lv_iconst (v := 0) hx hb dX0_passes_2_14 (by decide) ?_
  refine lv_istore_n (lv' := [(3, .int 0), (2, .int (heI (x.1 0) (nwI (x.1 0)))), (1, .int (nwI (x.1 0))), (0, .ref (L 44))]) hx hb dX0_passes_2_15 rfl hl (by decide) rfl (fun ls hl => ?_)
  have lp16 : ∀ (fuel : Nat) (i : Nat), (i ≤ n) → n - i < fuel → ∀ (v3 : Int32), v3 = nI i → ∀ (xc16 : cst), xc16 = xs x 0 (psw1 (x.1 0) i) → ∀ (H : Heap) (locs : List Loc), hw D (cfC D L xc16) A H → va_S A s.heap H locs → ∀ (ls : Array Slot), lv_has ls 4 [(0, .ref (L 44)), (1, .int (nwI (x.1 0))), (2, .int (heI (x.1 0) (nwI (x.1 0)))), (3, .int v3)] → W p l e ({ frames := 5, cells := 0, slots := 0, locals := 107 } : Room) s m ([.ref (L 44)] : List Value).toArray below meth c H locs 0 0 (MQ below (nQ D (cfC D L (xs x 0 (psw (x.1 0)))) A none) ([.ref (L 44)] : List Value).toArray s 0 0 A) (F0 m 16 ls []) := by
    intro fuel
    induction fuel with
    | zero => intro i hi hf; exact absurd hf (Nat.not_lt_zero _)
    | succ fuel ih16 =>
      intro i hi hf16 v3 e3  xc16 exc16 H locs hI hS ls hl
      subst e3
      have hq1 : xc16.1 0 1 0 = nI n := by rw [exc16, xs_at, psw1_r _ _ _ (by decide)]; exact hn
      have hrow2 : xc16.1 0 (2 + 0) i = x.1 0 (2 + 0) i := by rw [exc16, xs_at, psw1_r _ _ _ (by decide)]
      refine lv_iload_n hx hb dX0_passes_2_16 rfl (lv_at hl 3 rfl) ?_
      refine lv_aload_n hx hb dX0_passes_2_17 rfl (lv_at hl 0 rfl) ?_
      refine r_get (C := RX0) (T := TX0) (N := 11) hx hb hts in_X0 hown hK hI (cf_main) rfl 3 (by decide) (hts _ q401) (fun _ h => h) rfl dX0_passes_2_18 ?_
      refine r_getN (C := RX4) (T := TX4) (N := 7) hx hb hts in_X4 hown hK hI (cf_W (w := 0) (by decide)) rfl 1 (by decide) (nf_4 hK) (fun _ h => h) rfl dX0_passes_2_21 ?_
      refine lv_icmp_ge (tgt := 61) hx hb dX0_passes_2_24 (by decide) (fun c_24 => ?_) (fun c_24 => ?_)
      · skip
        have c_24 : n ≤ i := (nle (a := n) (b := i) (hq1) (rfl) (by omega) (by omega)).mp c_24
        refine lv_iconst (v := 0) hx hb dX0_passes_2_61 (by decide) ?_
        refine lv_istore_n (lv' := [(3, .int 0), (0, .ref (L 44)), (1, .int (nwI (x.1 0))), (2, .int (heI (x.1 0) (nwI (x.1 0))))]) hx hb dX0_passes_2_62 rfl hl (by decide) rfl (fun ls hl => ?_)
        have lp63 : ∀ (fuel : Nat) (i : Nat), (i ≤ n) → n - i < fuel → ∀ (v3 : Int32), v3 = nI i → ∀ (xc63 : cst), xc63 = xs x 0 (psw2 (x.1 0) i) → ∀ (H : Heap) (locs : List Loc), hw D (cfC D L xc63) A H → va_S A s.heap H locs → ∀ (ls : Array Slot), lv_has ls 4 [(0, .ref (L 44)), (1, .int (nwI (x.1 0))), (2, .int (heI (x.1 0) (nwI (x.1 0)))), (3, .int v3)] → W p l e ({ frames := 5, cells := 0, slots := 0, locals := 107 } : Room) s m ([.ref (L 44)] : List Value).toArray below meth c H locs 0 0 (MQ below (nQ D (cfC D L (xs x 0 (psw (x.1 0)))) A none) ([.ref (L 44)] : List Value).toArray s 0 0 A) (F0 m 63 ls []) := by
          intro fuel
          induction fuel with
          | zero => intro i hi hf; exact absurd hf (Nat.not_lt_zero _)
          | succ fuel ih63 =>
            intro i hi hf63 v3 e3  xc63 exc63 H locs hI hS ls hl
            subst e3
            have hq1 : xc63.1 0 1 0 = nI n := by rw [exc63, xs_at, psw2_r _ _ _ (by decide)]; exact hn
            have hrow2 : xc63.1 0 (2 + 0) i = x.1 0 (2 + 0) i := by rw [exc63, xs_at, psw2_r _ _ _ (by decide)]
            have hgone : xc63.1 0 1 1 = x.1 0 1 1 := by rw [exc63, xs_at, psw2_r _ _ _ (by decide)]
            refine lv_iload_n hx hb dX0_passes_2_63 rfl (lv_at hl 3 rfl) ?_
            refine lv_aload_n hx hb dX0_passes_2_64 rfl (lv_at hl 0 rfl) ?_
            refine r_get (C := RX0) (T := TX0) (N := 11) hx hb hts in_X0 hown hK hI (cf_main) rfl 3 (by decide) (hts _ q401) (fun _ h => h) rfl dX0_passes_2_65 ?_
            refine r_getN (C := RX4) (T := TX4) (N := 7) hx hb hts in_X4 hown hK hI (cf_W (w := 0) (by decide)) rfl 1 (by decide) (nf_4 hK) (fun _ h => h) rfl dX0_passes_2_68 ?_
            refine lv_icmp_ge (tgt := 110) hx hb dX0_passes_2_71 (by decide) (fun c_71 => ?_) (fun c_71 => ?_)
            · skip
              have c_71 : n ≤ i := (nle (a := n) (b := i) (hq1) (rfl) (by omega) (by omega)).mp c_71
              refine lv_aload_n hx hb dX0_passes_2_110 rfl (lv_at hl 0 rfl) ?_
              refine r_get (C := RX0) (T := TX0) (N := 11) hx hb hts in_X0 hown hK hI (cf_main) rfl 3 (by decide) (hts _ q401) (fun _ h => h) rfl dX0_passes_2_111 ?_
              refine lv_dup hx hb dX0_passes_2_114 rfl ?_
              refine r_getN (C := RX4) (T := TX4) (N := 7) hx hb hts in_X4 hown hK hI (cf_W (w := 0) (by decide)) rfl 4 (by decide) (nf_9 hK) (fun _ h => h) rfl dX0_passes_2_115 ?_
              refine lv_iconst (v := 1) hx hb dX0_passes_2_118 (by decide) ?_
              refine lv_iadd hx hb dX0_passes_2_119 ?_
              obtain ⟨x1, ex1⟩ : ∃ z, z = xs xc63 0 (u2 (xc63.1 0) 1 2 ((xc63.1 0 1 2) + (1 : Int32))) := ⟨_, rfl⟩
              have hf_2 : (x1.1 0 1 0) = nI n := by rw [ex1, xs_at, u2_at, if_neg (by decide)]; exact hq1
              refine r_putN (C := RX4) (T := TX4) (N := 7) (cf' := cfC D L x1) hx hb hts in_X4 tyX4 tyX4_ok nmX4 hown hK hI hS (cf_W (w := 0) (by decide)) rfl 4 (by decide) (nf_9 hK) (fun _ h => h) rfl (ty := .int) (by decide +kernel) rfl rfl (Nat.le_of_ble_eq_true rfl) (by rw [ex1]; exact cs_sc (w := 0) (by decide) (by decide) rfl) dX0_passes_2_120 (fun H1 locs1 hI hS => ?_)
              exact W.vret hx hb hr (fun t ht _ => ⟨rfl, by rw [ht]; exact hw_eq hI (congrArg (cfC D L) (by rw [ex1, exc63]; simp only [xs_at, xs_xs, psw, hN]; rw [show i = n by omega, psw2_r _ _ _ (by decide)])), hS.F ht⟩) hS.2.2 dX0_passes_2_123
            · skip
              have c_71 : ¬ n ≤ i := fun z => c_71 ((nle (a := n) (b := i) (hq1) (rfl) (by omega) (by omega)).mpr z)
              refine lv_aload_n hx hb dX0_passes_2_74 rfl (lv_at hl 0 rfl) ?_
              refine r_get (C := RX0) (T := TX0) (N := 11) hx hb hts in_X0 hown hK hI (cf_main) rfl 3 (by decide) (hts _ q401) (fun _ h => h) rfl dX0_passes_2_75 ?_
              refine r_getN (C := RX4) (T := TX4) (N := 7) hx hb hts in_X4 hown hK hI (cf_W (w := 0) (by decide)) rfl 3 (by decide) (nf_8 hK) (fun _ h => h) rfl dX0_passes_2_78 ?_
              refine lv_iload_n hx hb dX0_passes_2_81 rfl (lv_at hl 3 rfl) ?_
              refine c_r (k_S (As := [.int (xc63.1 0 1 1), .int (nI i)]) (rest := []) F (k_X0_has (xc63.1 0 1 1) (nI i)) (va_cwS 2 hts (lw_S q481 q475 q91 q476) rfl rfl rfl (by decide +kernel) ⟨Nat.le_of_ble_eq_true rfl, Nat.le_of_ble_eq_true rfl⟩) rfl hl.1 rfl (Nat.le_of_ble_eq_true rfl) dX0_passes_2_82 ⟨Nat.le_of_ble_eq_true rfl, Nat.le_of_ble_eq_true rfl⟩) ?_
              refine lv_if_ne (tgt := 104) hx hb dX0_passes_2_85 (by decide) (fun c_85 => ?_) (fun c_85 => ?_)
              · skip
                refine lv_iinc (v := (nI (i + 1))) (lv' := [(3, .int (nI (i + 1))), (0, .ref (L 44)), (1, .int (nwI (x.1 0))), (2, .int (heI (x.1 0) (nwI (x.1 0))))]) hx hb dX0_passes_2_104 hl (k := 3) rfl (nI_1 _) (by decide) rfl (fun ls hl => ?_)
                refine lv_goto (tgt := 63) hx hb dX0_passes_2_107 (by decide) ?_
                exact ih63 (i + 1) (by omega) (by omega) (nI (i + 1)) (rfl) xc63 (by rw [hgone] at c_85; rw [exc63]; simp only [xs_at, xs_xs, psw2, itr_s]; simp [liS, c_85]) _ _ hI hS ls (lv_sub hl [1, 2, 3, 0] rfl)
              · skip
                refine lv_aload_n hx hb dX0_passes_2_88 rfl (lv_at hl 0 rfl) ?_
                refine r_get (C := RX0) (T := TX0) (N := 11) hx hb hts in_X0 hown hK hI (cf_main) rfl 3 (by decide) (hts _ q401) (fun _ h => h) rfl dX0_passes_2_89 ?_
                refine lv_iload_n hx hb dX0_passes_2_92 rfl (lv_at hl 3 rfl) ?_
                refine lv_aload_n hx hb dX0_passes_2_93 rfl (lv_at hl 0 rfl) ?_
                refine lv_iload_n hx hb dX0_passes_2_94 rfl (lv_at hl 3 rfl) ?_
                refine c_r (k_V (As := [.int (nI i)]) (rest := [.int (nI i), .ref (L (11 * 0))]) F (k_X0_gloveOf xc63 i (kN (x.1 0) i) (hO.k (k := i) (by omega)).2 (by omega) (by rw [hrow2]; exact (hO.k (k := i) (by omega)).1)) (cwV 1 hts (lw_V q482 q484 qs4 q91 q485) rfl rfl rfl (by decide +kernel) ⟨Nat.le_of_ble_eq_true rfl, Nat.le_of_ble_eq_true rfl⟩) hI hK (hw.recv hI hK (cf_main) rfl) rfl hl.1 rfl (Nat.le_of_ble_eq_true rfl) dX0_passes_2_95 ⟨Nat.le_of_ble_eq_true rfl, Nat.le_of_ble_eq_true rfl⟩) ?_
                refine c_r (run_stays (rest := [.int (nI i), .ref (L (11 * 0))]) F (hO.k (k := i) (by omega)).2 (by omega) hI hK hl.1 (Nat.le_of_ble_eq_true rfl) dX0_passes_2_98 ⟨Nat.le_of_ble_eq_true rfl, Nat.le_of_ble_eq_true rfl⟩ ⟨Nat.le_of_ble_eq_true rfl, Nat.le_of_ble_eq_true rfl⟩) ?_
                refine c_m (k_V (As := [.int (nI i), .int (styI (kN (x.1 0) i))]) (rest := []) F (k_X4_lies xc63 0 (by decide) i (styI (kN (x.1 0) i)) (by omega)) (cwV 2 hts (lw_V q742 q743 q744 q98 q745) rfl rfl rfl (by decide +kernel) ⟨Nat.le_of_ble_eq_true rfl, Nat.le_of_ble_eq_true rfl⟩) hI hK (hw.recv hI hK (cf_W (w := 0) (by decide)) rfl) rfl hl.1 rfl (Nat.le_of_ble_eq_true rfl) dX0_passes_2_101 ⟨Nat.le_of_ble_eq_true rfl, Nat.le_of_ble_eq_true rfl⟩) hS (fun H1 locs1 hI hS => ?_)
                obtain ⟨x3, ex3⟩ : ∃ z, z = xs xc63 0 (liw (xc63.1 0) i (styI (kN (x.1 0) i))) := ⟨_, rfl⟩
                rw [← ex3] at hI
                refine lv_iinc (v := (nI (i + 1))) (lv' := [(3, .int (nI (i + 1))), (0, .ref (L 44)), (1, .int (nwI (x.1 0))), (2, .int (heI (x.1 0) (nwI (x.1 0))))]) hx hb dX0_passes_2_104 hl (k := 3) rfl (nI_1 _) (by decide) rfl (fun ls hl => ?_)
                refine lv_goto (tgt := 63) hx hb dX0_passes_2_107 (by decide) ?_
                exact ih63 (i + 1) (by omega) (by omega) (nI (i + 1)) (rfl) x3 (by rw [hgone] at c_85; rw [ex3, exc63]; simp only [xs_at, xs_xs, psw2, itr_s]; simp [liS, c_85]) _ _ hI hS ls (lv_sub hl [1, 2, 3, 0] rfl)
        exact lp63 (_ + 1) (0) (Nat.zero_le _) (Nat.lt_succ_self _) 0 (rfl) xc16 (by rw [exc16]; rw [show i = n by omega, psw2, hN]; rfl) _ _ hI hS ls (lv_sub hl [1, 2, 3, 0] rfl)
      · skip
        have c_24 : ¬ n ≤ i := fun z => c_24 ((nle (a := n) (b := i) (hq1) (rfl) (by omega) (by omega)).mpr z)
        refine lv_iload_n hx hb dX0_passes_2_27 rfl (lv_at hl 2 rfl) ?_
        refine lv_iload_n hx hb dX0_passes_2_28 rfl (lv_at hl 3 rfl) ?_
        refine c_r (k_S (As := [.int (heI (x.1 0) (nwI (x.1 0))), .int (nI i)]) (rest := []) F (k_X0_has (heI (x.1 0) (nwI (x.1 0))) (nI i)) (va_cwS 2 hts (lw_S q481 q475 q91 q476) rfl rfl rfl (by decide +kernel) ⟨Nat.le_of_ble_eq_true rfl, Nat.le_of_ble_eq_true rfl⟩) rfl hl.1 rfl (Nat.le_of_ble_eq_true rfl) dX0_passes_2_29 ⟨Nat.le_of_ble_eq_true rfl, Nat.le_of_ble_eq_true rfl⟩) ?_
        refine lv_if_eq (tgt := 55) hx hb dX0_passes_2_32 (by decide) (fun c_32 => ?_) (fun c_32 => ?_)
        · skip
          refine lv_iinc (v := (nI (i + 1))) (lv' := [(3, .int (nI (i + 1))), (0, .ref (L 44)), (1, .int (nwI (x.1 0))), (2, .int (heI (x.1 0) (nwI (x.1 0))))]) hx hb dX0_passes_2_55 hl (k := 3) rfl (nI_1 _) (by decide) rfl (fun ls hl => ?_)
          refine lv_goto (tgt := 16) hx hb dX0_passes_2_58 (by decide) ?_
          exact ih16 (i + 1) (by omega) (by omega) (nI (i + 1)) (rfl) xc16 (by rw [exc16]; simp only [xs_at, xs_xs, psw1, itr_s]; simp [lnS, c_24, c_32]) _ _ hI hS ls (lv_sub hl [1, 2, 3, 0] rfl)
        · skip
          refine lv_aload_n hx hb dX0_passes_2_35 rfl (lv_at hl 0 rfl) ?_
          refine r_get (C := RX0) (T := TX0) (N := 11) hx hb hts in_X0 hown hK hI (cf_main) rfl 3 (by decide) (hts _ q401) (fun _ h => h) rfl dX0_passes_2_36 ?_
          refine lv_iload_n hx hb dX0_passes_2_39 rfl (lv_at hl 3 rfl) ?_
          refine lv_iload_n hx hb dX0_passes_2_40 rfl (lv_at hl 1 rfl) ?_
          refine c_r (k_S (As := [.int (nwI (x.1 0))]) (rest := [.int (nI i), .ref (L (11 * 0))]) F (k_X0_topicOf (nwI (x.1 0))) (va_cwS 1 hts (lw_S q451 q452 q91 q453) rfl rfl rfl (by decide +kernel) ⟨Nat.le_of_ble_eq_true rfl, Nat.le_of_ble_eq_true rfl⟩) rfl hl.1 rfl (Nat.le_of_ble_eq_true rfl) dX0_passes_2_41 ⟨Nat.le_of_ble_eq_true rfl, Nat.le_of_ble_eq_true rfl⟩) ?_
          refine lv_aload_n hx hb dX0_passes_2_44 rfl (lv_at hl 0 rfl) ?_
          refine lv_iload_n hx hb dX0_passes_2_45 rfl (lv_at hl 3 rfl) ?_
          refine c_r (k_V (As := [.int (nI i)]) (rest := [.int (tpI (nwI (x.1 0))), .int (nI i), .ref (L (11 * 0))]) F (k_X0_gloveOf xc16 i (kN (x.1 0) i) (hO.k (k := i) (by omega)).2 (by omega) (by rw [hrow2]; exact (hO.k (k := i) (by omega)).1)) (cwV 1 hts (lw_V q482 q484 qs4 q91 q485) rfl rfl rfl (by decide +kernel) ⟨Nat.le_of_ble_eq_true rfl, Nat.le_of_ble_eq_true rfl⟩) hI hK (hw.recv hI hK (cf_main) rfl) rfl hl.1 rfl (Nat.le_of_ble_eq_true rfl) dX0_passes_2_46 ⟨Nat.le_of_ble_eq_true rfl, Nat.le_of_ble_eq_true rfl⟩) ?_
          refine c_r (run_keeps (rest := [.int (tpI (nwI (x.1 0))), .int (nI i), .ref (L (11 * 0))]) F (hO.k (k := i) (by omega)).2 (by omega) hI hK hl.1 (Nat.le_of_ble_eq_true rfl) dX0_passes_2_49 ⟨Nat.le_of_ble_eq_true rfl, Nat.le_of_ble_eq_true rfl⟩ ⟨Nat.le_of_ble_eq_true rfl, Nat.le_of_ble_eq_true rfl⟩) ?_
          refine c_m (k_V (As := [.int (nI i), .int (tpI (nwI (x.1 0))), .int (kpI (kN (x.1 0) i))]) (rest := []) F (k_X4_learns xc16 0 (by decide) i (tpI (nwI (x.1 0))) (kpI (kN (x.1 0) i)) (by omega)) (cwV 3 hts (lw_V q729 q730 q731 q98 q732) rfl rfl rfl (by decide +kernel) ⟨Nat.le_of_ble_eq_true rfl, Nat.le_of_ble_eq_true rfl⟩) hI hK (hw.recv hI hK (cf_W (w := 0) (by decide)) rfl) rfl hl.1 rfl (Nat.le_of_ble_eq_true rfl) dX0_passes_2_52 ⟨Nat.le_of_ble_eq_true rfl, Nat.le_of_ble_eq_true rfl⟩) hS (fun H1 locs1 hI hS => ?_)
          obtain ⟨x4, ex4⟩ : ∃ z, z = xs xc16 0 (lnw (xc16.1 0) i (tpI (nwI (x.1 0))) (kpI (kN (x.1 0) i))) := ⟨_, rfl⟩
          rw [← ex4] at hI
          refine lv_iinc (v := (nI (i + 1))) (lv' := [(3, .int (nI (i + 1))), (0, .ref (L 44)), (1, .int (nwI (x.1 0))), (2, .int (heI (x.1 0) (nwI (x.1 0))))]) hx hb dX0_passes_2_55 hl (k := 3) rfl (nI_1 _) (by decide) rfl (fun ls hl => ?_)
          refine lv_goto (tgt := 16) hx hb dX0_passes_2_58 (by decide) ?_
          exact ih16 (i + 1) (by omega) (by omega) (nI (i + 1)) (rfl) x4 (by rw [ex4, exc16]; simp only [xs_at, xs_xs, psw1, itr_s]; simp [lnS, c_24, c_32]) _ _ hI hS ls (lv_sub hl [1, 2, 3, 0] rfl)
  exact lp16 (_ + 1) (0) (Nat.zero_le _) (Nat.lt_succ_self _) 0 (rfl) x ((xs_self _ _).symm) _ _ hI hS ls (lv_sub hl [3, 2, 1, 0] rfl)
