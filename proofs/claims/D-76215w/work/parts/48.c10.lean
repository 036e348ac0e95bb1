/-! sheets: what may be refused -/
def shOk2 (x : cst) : Prop := ∀ s, s < 4 → ∀ a t n g, x.2.2.2 s = some (a, t, n, g) → t < 3 ∧ n ≤ 40 ∧ ∀ i, i < n → shn t (g i) = g i
theorem xr_at (x : cst) (r c : Nat) (v : Int32) : (xr x r c v).2.1 r c = v := by
  show u2 x.2.1 r c v r c = v
  rw [u2_at, if_pos ⟨rfl, rfl⟩]
theorem in03 {k : Nat} (h : k < 4) : ¬ inI (nI k) 0 3 = 0 := by
  rw [show (0 : Int32) = nI 0 from rfl, show (3 : Int32) = nI 3 from rfl, in_nat (by omega) (by decide) (by decide), if_neg (by omega), if_neg (by omega)]; decide
theorem shq_0 {q : Nat → shv} {s : Int32} (h : inI s 0 3 = 0) : shq q s = .inl 0 := by rw [shq, if_pos h]
theorem shq_n {q : Nat → shv} {k : Nat} (h : k < 4) (hq : q k = none) : shq q (nI k) = .inl 5 := by rw [shq, if_neg (in03 h), nI_clamp (by omega), hq]
theorem shq_s {q : Nat → shv} {k : Nat} {z : Nat × Nat × (Nat → Int32)} (h : k < 4) (hq : q k = some z) : shq q (nI k) = .inr z := by rw [shq, if_neg (in03 h), nI_clamp (by omega), hq]
theorem shC_n {x : cst} {k : Nat} (h : x.2.2.2 k = none) : shC x k = none := by unfold shC; rw [h]; rfl
theorem shC_s {x : cst} {k a t n : Nat} {g : Nat → Int32} (h : x.2.2.2 k = some (a, t, n, g)) : shC x k = some (t, n, g) := by unfold shC; rw [h]; rfl
/-- a write's end -/
def aCW (x : cst) : Nat ⊕ (Nat × Nat × Int32) → cst
  | .inl k => fnd x k
  | .inr q => xsh x q.1 ((x.2.2.2 q.1).map (fun z => (z.1, z.2.1, z.2.2.1, upd z.2.2.2 q.2.1 q.2.2)))
def aW {α : Type} (v : α → Int32) : Nat ⊕ α → Int32
  | .inl k => -1000001 - nI k
  | .inr q => v q
def aCP (x : cst) : Nat ⊕ (Nat × Nat × Nat × Nat × Nat) → cst
  | .inl k => fnd x k
  | .inr q => xsh x q.2.2.1 ((x.2.2.2 q.2.2.1).map (fun z => (z.1, z.2.1, z.2.2.1, va_cpy ((x.2.2.2 q.1).elim (fun _ => 0) (·.2.2.2)) z.2.2.2 q.2.1 q.2.2.2.1 q.2.2.2.2)))
theorem jk_fr (x : cst) (k : Nat) (v : Int32) : jk (fnd x k) (fnd (xr x 4 0 v) k) := jk_fnd (jk_ref x v) k
theorem jk_xsh {x x' : cst} (h : jk x x') (k : Nat) (v : Option (Nat × Nat × Nat × (Nat → Int32))) : jk (xsh x k v) (xsh x' k v) := ⟨h.1, h.2.1, h.2.2.1, h.2.2.2.1, h.2.2.2.2.1, by show (fun j => if j = k then v else x'.2.2.2 j) = fun j => if j = k then v else x.2.2.2 j; rw [h.2.2.2.2.2]⟩
theorem in_pl {i : Nat} (h : i < 100) : inI (nI i) 0 5 = 0 ↔ 5 < i := by
  rw [show (0 : Int32) = nI 0 from rfl, show (5 : Int32) = nI 5 from rfl, in_nat (by omega) (by decide) (by decide), if_neg (by omega)]
  by_cases h2 : 5 < i
  · rw [if_pos h2]; exact ⟨fun _ => h2, fun _ => rfl⟩
  · rw [if_neg h2]; exact ⟨fun q => absurd q (by decide), fun q => absurd q h2⟩
theorem ld_go {z : Nat × Nat × (Nat → Int32)} {i : Nat} (h1 : i < z.2.1) (h2 : i < 6) (h3 : ¬ isSayI (z.2.2 i) = 0) : ldP z i = false := decide_eq_false (fun q => q ⟨h1, h2, h3⟩)
theorem ld_st {z : Nat × Nat × (Nat → Int32)} {i : Nat} (h : z.2.1 ≤ i ∨ 6 ≤ i ∨ isSayI (z.2.2 i) = 0) : ldP z i = true := decide_eq_true (fun q => by
  rcases h with h | h | h
  · omega
  · omega
  · exact q.2.2 h)
theorem ju_go {f : wd} {z : Nat × Nat × (Nat → Int32)} {i : Nat} (h1 : i < z.2.1) (h2 : ¬ isGlI f (nI i) = 0) (h3 : z.2.2 i = f (2 + 5) i) : juP f z i = false := decide_eq_false (fun q => q ⟨h1, h2, h3⟩)
theorem ju_st {f : wd} {z : Nat × Nat × (Nat → Int32)} {i : Nat} (h : z.2.1 ≤ i ∨ isGlI f (nI i) = 0 ∨ ¬ z.2.2 i = f (2 + 5) i) : juP f z i = true := decide_eq_true (fun q => by
  rcases h with h | h | h
  · omega
  · exact q.2.1 h
  · exact h q.2.2)
theorem gl_8 {f : wd} {i n : Nat} (hn : f 1 0 = nI n) (h8 : n ≤ 8) (hi : i < 1000) (h : ¬ isGlI f (nI i) = 0) : i < 8 := by
  obtain ⟨k, hk, e⟩ := isGl_to hn h8 h
  have := (nI_eq (by omega) (by omega)).mp e
  omega
theorem in_sz {i : Int32} {sz : Nat} (hn : sz ≤ 40) (h : ¬ inI i 0 (nI sz - 1) = 0) : ∃ j, j < sz ∧ i = nI j := by
  cases sz with
  | zero =>
    exfalso
    unfold inI at h
    by_cases h1 : i < 0
    · rw [if_pos h1] at h; exact h rfl
    · rw [if_neg h1] at h
      obtain ⟨k, hk, rfl⟩ := nI_of h1
      have h2 : nI 0 - 1 < nI k := by
        rw [Int32.lt_iff_toInt_lt, nI_toInt hk]
        show (-1 : Int) < _
        omega
      rw [if_pos h2] at h; exact h rfl
  | succ n =>
    rw [nI_pred] at h
    obtain ⟨k, hk, e⟩ := inI_to (b := n) rfl (by omega) h
    exact ⟨k, by omega, e⟩
theorem k_X0_refused {l : Launch} {D : va_G} {L : Nat → Nat} {A : Nat → Prop} (x : cst) (k : Nat) : Met l yX0_refused (ws_ yX0_refused cX0_refused 2 (some (.object "LeftGloves$Refusal"))) ({ frames := 0, cells := 0, slots := 0, locals := 0 } : Room) (va_Pc [.ref (L 44), .int (nI k)] (pI D (cfC D L x) A)) (nQ D (cfC D L (xr x 4 0 (nI k))) A (some (.ref (L 45)))) 0 0 A := by
  refine met_I (by decide) rfl (Nat.le_of_ble_eq_true rfl) ?_
  intro p e s m below meth c ls hx hb hr hml hown hts hlocks hl hI hK
  have F : CallFix p m c cX0_refused 2 s _ lw_all RX0 := ⟨hx, hb, hml, hown, hts⟩
  have hl : lv_has ls 2 [(0, .ref (L 44)), (1, .int (nI k))] := hl
  have hS : va_S A s.heap s.heap [] := va_S.rf
  refine lv_aload_n hx hb dX0_refused_0 rfl (lv_at hl 0 rfl) ?_
  refine r_get (C := RX0) (T := TX0) (N := 11) hx hb hts in_X0 hown hK hI (cf_main) rfl 0 (by decide) (hts _ q396) (fun _ h => h) rfl dX0_refused_1 ?_
  refine lv_iload_n hx hb dX0_refused_4 rfl (lv_at hl 1 rfl) ?_
  obtain ⟨x1, ex1⟩ : ∃ z, z = xr x 4 0 (nI k) := ⟨_, rfl⟩
  refine r_putN (C := RX1) (T := TX1) (N := 7) (cf' := cfC D L x1) hx hb hts in_X1 tyX1 tyX1_ok nmX1 hown hK hI hS (cf_refusal) rfl 6 (by decide) (nf_0 hK) (fun _ h => h) rfl (ty := .int) (by decide +kernel) rfl rfl (Nat.le_of_ble_eq_true rfl) (by rw [ex1]; exact cs_refusal) dX0_refused_5 (fun H1 locs1 hI hS => ?_)
  refine lv_aload_n hx hb dX0_refused_8 rfl (lv_at hl 0 rfl) ?_
  refine r_get (C := RX0) (T := TX0) (N := 11) hx hb hts in_X0 hown hK hI (cf_main) rfl 0 (by decide) (hts _ q396) (fun _ h => h) rfl dX0_refused_9 ?_
  exact W.aret hx hb hr (Or.inl ⟨_, rfl⟩) (Or.inr ⟨_, rfl⟩) (fun t ht _ => ⟨rfl, by rw [ht]; exact hw_eq hI (congrArg (cfC D L) (ex1)), hS.F ht⟩) hS.2.2 dX0_refused_12
theorem k_X0_need_ok {l : Launch} {D : va_G} {L : Nat → Nat} {A : Nat → Prop} (x : cst) (b : Int32) (k : Nat) (hb1 : ¬ b = 0) : Met l yX0_need (ws_ yX0_need cX0_need 3 none) ({ frames := 0, cells := 0, slots := 0, locals := 0 } : Room) (va_Pc [.ref (L 44), .int b, .int (nI k)] (pI D (cfC D L x) A)) (nQ D (cfC D L x) A none) 0 0 A := by
  refine met_I (by decide) rfl (Nat.le_of_ble_eq_true rfl) ?_
  intro p e s m below meth c ls hx hb hr hml hown hts hlocks hl hI hK
  have F : CallFix p m c cX0_need 3 s _ lw_all RX0 := ⟨hx, hb, hml, hown, hts⟩
  have hl : lv_has ls 3 [(0, .ref (L 44)), (1, .int b), (2, .int (nI k))] := hl
  have hS : va_S A s.heap s.heap [] := va_S.rf
  refine lv_iload_n hx hb dX0_need_0 rfl (lv_at hl 1 rfl) ?_
  refine lv_if_ne (tgt := 10) hx hb dX0_need_1 (by decide) (fun c_1 => ?_) (fun c_1 => ?_)
  · skip
    exact W.vret hx hb hr (fun t ht _ => ⟨rfl, by rw [ht]; exact hw_eq hI (congrArg (cfC D L) (rfl)), hS.F ht⟩) hS.2.2 dX0_need_10
  · skip
    exact absurd c_1 hb1
theorem k_X0_need_thr {l : Launch} {D : va_G} {L : Nat → Nat} {A : Nat → Prop} (x : cst) (b : Int32) (k : Nat) (hb1 : b = 0) : MetX l yX0_need (ws_ yX0_need cX0_need 3 none) ({ frames := 1, cells := 0, slots := 0, locals := 21 } : Room) (va_Pc [.ref (L 44), .int b, .int (nI k)] (pI D (cfC D L x) A)) (xQ D (cfC D L (xr x 4 0 (nI k))) A (.threw (L 45))) A := by
  refine met_X (by decide) rfl (Nat.le_of_ble_eq_true rfl) ?_
  intro p e s m below meth c ls hx hb hr hml hown hts hlocks hl hI hK hout
  have F : CallFix p m c cX0_need 3 s _ lw_all RX0 := ⟨hx, hb, hml, hown, hts⟩
  have hl : lv_has ls 3 [(0, .ref (L 44)), (1, .int b), (2, .int (nI k))] := hl
  have hS : va_S A s.heap s.heap [] := va_S.rf
  refine lv_iload_n hx hb dX0_need_0 rfl (lv_at hl 1 rfl) ?_
  refine lv_if_ne (tgt := 10) hx hb dX0_need_1 (by decide) (fun c_1 => ?_) (fun c_1 => ?_)
  · skip
    exact absurd hb1 c_1
  · skip
    refine lv_aload_n hx hb dX0_need_4 rfl (lv_at hl 0 rfl) ?_
    refine lv_iload_n hx hb dX0_need_5 rfl (lv_at hl 2 rfl) ?_
    refine c_m (k_V (As := [.int (nI k)]) (rest := []) F (k_X0_refused x k) (cwV 1 hts (lw_V q889 q891 qs26 q91 q892) rfl rfl rfl (by decide +kernel) ⟨Nat.le_of_ble_eq_true rfl, Nat.le_of_ble_eq_true rfl⟩) hI hK (hw.recv hI hK (cf_main) rfl) rfl hl.1 rfl (Nat.le_of_ble_eq_true rfl) dX0_need_6 ⟨Nat.le_of_ble_eq_true rfl, Nat.le_of_ble_eq_true rfl⟩) hS (fun H1 locs1 hI hS => ?_)
    obtain ⟨x1, ex1⟩ : ∃ z, z = xr x 4 0 (nI k) := ⟨_, rfl⟩
    rw [← ex1] at hI
    exact x_athrow hx hb hlocks hout (fun t ht _ => ⟨rfl, by rw [ht]; exact hw_eq hI (congrArg (cfC D L) (ex1)), hS.F ht⟩) hS.2.2 dX0_need_9
theorem k_X0_rowAt_n {l : Launch} {D : va_G} {L : Nat → Nat} {A : Nat → Prop} (x : cst) (k : Nat) (hk : k < 4) (hq : x.2.2.2 k = none) : Met l yX0_rowAt (ws_ yX0_rowAt cX0_rowAt 2 (some (.object "java/lang/Object"))) ({ frames := 2, cells := 0, slots := 0, locals := 42 } : Room) (va_Pc [.ref (L 44), .int (nI k)] (pI D (cfC D L x) A)) (nQ D (cfC D L x) A (some .null)) 0 0 A := by
  refine met_I (by decide) rfl (Nat.le_of_ble_eq_true rfl) ?_
  intro p e s m below meth c ls hx hb hr hml hown hts hlocks hl hI hK
  have F : CallFix p m c cX0_rowAt 2 s _ lw_all RX0 := ⟨hx, hb, hml, hown, hts⟩
  have hl : lv_has ls 2 [(0, .ref (L 44)), (1, .int (nI k))] := hl
  have hS : va_S A s.heap s.heap [] := va_S.rf
  refine lv_aload_n hx hb dX0_rowAt_0 rfl (lv_at hl 0 rfl) ?_
  refine lv_iload_n hx hb dX0_rowAt_1 rfl (lv_at hl 1 rfl) ?_
  refine c_r (k_S (As := [.int (nI k)]) (rest := [.ref (L 44)]) F (k_X0_isSheet (nI k)) (va_cwS 1 hts (lw_S q882 q883 q91 q884) rfl rfl rfl (by decide +kernel) ⟨Nat.le_of_ble_eq_true rfl, Nat.le_of_ble_eq_true rfl⟩) rfl hl.1 rfl (Nat.le_of_ble_eq_true rfl) dX0_rowAt_2 ⟨Nat.le_of_ble_eq_true rfl, Nat.le_of_ble_eq_true rfl⟩) ?_
  refine lv_iconst (v := 0) hx hb dX0_rowAt_5 (by decide) ?_
  refine c_m (k_V (As := [.int (inI (nI k) 0 3), .int 0]) (rest := []) F (k_X0_need_ok x (inI (nI k) 0 3) 0 (in03 hk)) (cwV 2 hts (lw_V q885 q887 qs25 q91 q888) rfl rfl rfl (by decide +kernel) ⟨Nat.le_of_ble_eq_true rfl, Nat.le_of_ble_eq_true rfl⟩) hI hK (hw.recv hI hK (cf_main) rfl) rfl hl.1 rfl (Nat.le_of_ble_eq_true rfl) dX0_rowAt_6 ⟨Nat.le_of_ble_eq_true rfl, Nat.le_of_ble_eq_true rfl⟩) hS (fun H1 locs1 hI hS => ?_)
  refine lv_aload_n hx hb dX0_rowAt_9 rfl (lv_at hl 0 rfl) ?_
  refine r_get (C := RX0) (T := TX0) (N := 11) hx hb hts in_X0 hown hK hI (cf_main) rfl 9 (by decide) (hts _ q407) (fun _ h => h) rfl dX0_rowAt_10 ?_
  refine lv_iload_n hx hb dX0_rowAt_13 rfl (lv_at hl 1 rfl) ?_
  refine n_aaldS (f := fun k => L (63 + k)) (k := k) hx hb hK hI (cf_sharr) (rfl) (by omega) (by decide) dX0_rowAt_14 ?_
  refine r_getN (v := .null) (C := RX5) (T := TX5) (N := 1) hx hb hts in_X5 hown hK hI (cf_shsl (k := k) (by omega)) rfl 0 (by decide) (nf_16 hK) (fun _ h => h) (by simp [hq, va_rf]) dX0_rowAt_15 ?_
  exact W.aret hx hb hr (Or.inl ⟨_, rfl⟩) (Or.inl rfl) (fun t ht _ => ⟨rfl, by rw [ht]; exact hw_eq hI (congrArg (cfC D L) (rfl)), hS.F ht⟩) hS.2.2 dX0_rowAt_18
theorem k_X0_rowAt_r {l : Launch} {D : va_G} {L : Nat → Nat} {A : Nat → Prop} (x : cst) (k : Nat) (hk : k < 4) (sa t sz : Nat) (sg : Nat → Int32) (hq : x.2.2.2 k = some (sa, t, sz, sg)) : Met l yX0_rowAt (ws_ yX0_rowAt cX0_rowAt 2 (some (.object "java/lang/Object"))) ({ frames := 2, cells := 0, slots := 0, locals := 42 } : Room) (va_Pc [.ref (L 44), .int (nI k)] (pI D (cfC D L x) A)) (nQ D (cfC D L x) A (some (.ref sa))) 0 0 A := by
  refine met_I (by decide) rfl (Nat.le_of_ble_eq_true rfl) ?_
  intro p e s m below meth c ls hx hb hr hml hown hts hlocks hl hI hK
  have F : CallFix p m c cX0_rowAt 2 s _ lw_all RX0 := ⟨hx, hb, hml, hown, hts⟩
  have hl : lv_has ls 2 [(0, .ref (L 44)), (1, .int (nI k))] := hl
  have hS : va_S A s.heap s.heap [] := va_S.rf
  refine lv_aload_n hx hb dX0_rowAt_0 rfl (lv_at hl 0 rfl) ?_
  refine lv_iload_n hx hb dX0_rowAt_1 rfl (lv_at hl 1 rfl) ?_
  refine c_r (k_S (As := [.int (nI k)]) (rest := [.ref (L 44)]) F (k_X0_isSheet (nI k)) (va_cwS 1 hts (lw_S q882 q883 q91 q884) rfl rfl rfl (by decide +kernel) ⟨Nat.le_of_ble_eq_true rfl, Nat.le_of_ble_eq_true rfl⟩) rfl hl.1 rfl (Nat.le_of_ble_eq_true rfl) dX0_rowAt_2 ⟨Nat.le_of_ble_eq_true rfl, Nat.le_of_ble_eq_true rfl⟩) ?_
  refine lv_iconst (v := 0) hx hb dX0_rowAt_5 (by decide) ?_
  refine c_m (k_V (As := [.int (inI (nI k) 0 3), .int 0]) (rest := []) F (k_X0_need_ok x (inI (nI k) 0 3) 0 (in03 hk)) (cwV 2 hts (lw_V q885 q887 qs25 q91 q888) rfl rfl rfl (by decide +kernel) ⟨Nat.le_of_ble_eq_true rfl, Nat.le_of_ble_eq_true rfl⟩) hI hK (hw.recv hI hK (cf_main) rfl) rfl hl.1 rfl (Nat.le_of_ble_eq_true rfl) dX0_rowAt_6 ⟨Nat.le_of_ble_eq_true rfl, Nat.le_of_ble_eq_true rfl⟩) hS (fun H1 locs1 hI hS => ?_)
  refine lv_aload_n hx hb dX0_rowAt_9 rfl (lv_at hl 0 rfl) ?_
  refine r_get (C := RX0) (T := TX0) (N := 11) hx hb hts in_X0 hown hK hI (cf_main) rfl 9 (by decide) (hts _ q407) (fun _ h => h) rfl dX0_rowAt_10 ?_
  refine lv_iload_n hx hb dX0_rowAt_13 rfl (lv_at hl 1 rfl) ?_
  refine n_aaldS (f := fun k => L (63 + k)) (k := k) hx hb hK hI (cf_sharr) (rfl) (by omega) (by decide) dX0_rowAt_14 ?_
  refine r_getN (v := .ref sa) (C := RX5) (T := TX5) (N := 1) hx hb hts in_X5 hown hK hI (cf_shsl (k := k) (by omega)) rfl 0 (by decide) (nf_16 hK) (fun _ h => h) (by simp [hq, va_rf]) dX0_rowAt_15 ?_
  exact W.aret hx hb hr (Or.inl ⟨_, rfl⟩) (Or.inr ⟨_, rfl⟩) (fun t ht _ => ⟨rfl, by rw [ht]; exact hw_eq hI (congrArg (cfC D L) (rfl)), hS.F ht⟩) hS.2.2 dX0_rowAt_18
theorem k_X0_rowAt_t {l : Launch} {D : va_G} {L : Nat → Nat} {A : Nat → Prop} (x : cst) (v : Int32) (hv : inI v 0 3 = 0) : MetX l yX0_rowAt (ws_ yX0_rowAt cX0_rowAt 2 (some (.object "java/lang/Object"))) ({ frames := 2, cells := 0, slots := 0, locals := 43 } : Room) (va_Pc [.ref (L 44), .int v] (pI D (cfC D L x) A)) (xQ D (cfC D L (xr x 4 0 (nI 0))) A (.threw (L 45))) A := by
  refine met_X (by decide) rfl (Nat.le_of_ble_eq_true rfl) ?_
  intro p e s m below meth c ls hx hb hr hml hown hts hlocks hl hI hK hout
  have F : CallFix p m c cX0_rowAt 2 s _ lw_all RX0 := ⟨hx, hb, hml, hown, hts⟩
  have hl : lv_has ls 2 [(0, .ref (L 44)), (1, .int v)] := hl
  have hS : va_S A s.heap s.heap [] := va_S.rf
  refine lv_aload_n hx hb dX0_rowAt_0 rfl (lv_at hl 0 rfl) ?_
  refine lv_iload_n hx hb dX0_rowAt_1 rfl (lv_at hl 1 rfl) ?_
  refine c_r (k_S (As := [.int v]) (rest := [.ref (L 44)]) F (k_X0_isSheet v) (va_cwS 1 hts (lw_S q882 q883 q91 q884) rfl rfl rfl (by decide +kernel) ⟨Nat.le_of_ble_eq_true rfl, Nat.le_of_ble_eq_true rfl⟩) rfl hl.1 rfl (Nat.le_of_ble_eq_true rfl) dX0_rowAt_2 ⟨Nat.le_of_ble_eq_true rfl, Nat.le_of_ble_eq_true rfl⟩) ?_
  refine lv_iconst (v := 0) hx hb dX0_rowAt_5 (by decide) ?_
  exact x_thr (k_X (n := 2) (As := [.int (inI v 0 3), .int 0]) (rest := []) F (k_X0_need_thr x (inI v 0 3) 0 (hv)) ⟨rfl, rfl⟩ ⟨Nat.le_of_ble_eq_true rfl, Nat.le_of_ble_eq_true rfl⟩ q885 q887 qs25 q91 q888 (by decide +kernel) hI hK (hw.recv hI hK (cf_main) rfl) rfl hl.1 rfl (Nat.le_of_ble_eq_true rfl) dX0_rowAt_6 ⟨Nat.le_of_ble_eq_true rfl, Nat.le_of_ble_eq_true rfl⟩) hS hlocks hout
set_option maxHeartbeats 1000000 in
theorem k_X0_write {l : Launch} {D : va_G} {L : Nat → Nat} {A : Nat → Prop} (x : cst) (hsh : shOk2 x) (s0 i v : Int32) : Met l yX0_write (wsW_ yX0_write cX0_write 5 (some .int) [((0 : Nat), (47 : Nat), (48 : Nat), (62 : Nat))]) ({ frames := 3, cells := 0, slots := 0, locals := 64 } : Room) (va_Pc [.ref (L 44), .int s0, .int i, .int v] (pI D (cfC D L x) A)) (jQ D L (aCW x (a_write (shC x) s0 i v)) A (some (.int (aW (fun _ => 1) (a_write (shC x) s0 i v))))) 0 0 A := by
  refine met_W (by decide) rfl (Nat.le_of_ble_eq_true rfl) ?_
  intro p e s m below meth c ls hx hb hr hml hown hts hlocks hl hI hK hhh
  have F : CallFix p m c cX0_write 5 s _ lw_all RX0 := ⟨hx, hb, hml, hown, hts⟩
  have hl : lv_has ls 5 [(0, .ref (L 44)), (1, .int s0), (2, .int i), (3, .int v)] := hl
  have hS : va_S A s.heap s.heap [] := va_S.rf
  refine lv_aload_n hx hb dX0_write_0 rfl (lv_at hl 0 rfl) ?_
  refine lv_iload_n hx hb dX0_write_1 rfl (lv_at hl 1 rfl) ?_
  by_cases r_2 : inI s0 0 3 = 0
  · skip
    obtain ⟨x1, ex1⟩ : ∃ z, z = xr x 4 0 (nI 0) := ⟨_, rfl⟩
    refine x_catch (cf' := cfC D L x1) (by rw [ex1]; exact (k_X (n := 1) (As := [.int s0]) (rest := []) F (k_X0_rowAt_t x s0 r_2) ⟨rfl, rfl⟩ ⟨Nat.le_of_ble_eq_true rfl, Nat.le_of_ble_eq_true rfl⟩ q878 q880 qs24 q91 q881 (by decide +kernel) hI hK (hw.recv hI hK (cf_main) rfl) rfl hl.1 rfl (Nat.le_of_ble_eq_true rfl) dX0_write_2 ⟨Nat.le_of_ble_eq_true rfl, Nat.le_of_ble_eq_true rfl⟩)) hS hown (hts _ q123) hhh (by decide) (by decide) (by decide) hK (ci := 1) rfl rfl (cf_refusal) (fun H1 locs1 hI hS => ?_)
    have hf_2 : x1.2.1 4 0 = nI 0 := by rw [ex1]; exact xr_at _ 4 0 _
    refine lv_astore (lv' := [(4, .ref (L 45)), (0, .ref (L 44)), (1, .int s0), (2, .int i), (3, .int v)]) hx hb dX0_write_48 hl (by decide) rfl (fun ls hl => ?_)
    refine lv_aload_n hx hb dX0_write_50 rfl (lv_at hl 1 rfl) ?_
    refine lv_aload hx hb dX0_write_51 (lv_at hl 0 rfl) ?_
    refine r_getN (C := RX1) (T := TX1) (N := 7) hx hb hts in_X1 hown hK hI (cf_refusal) rfl 6 (by decide) (nf_0 hK) (fun _ h => h) rfl dX0_write_53 ?_
    rw [hf_2]
    refine c_m (k_V (As := [.int (nI 0)]) (rest := []) F (k_X0_finding x1 0 (by decide)) (cwV 1 hts (lw_V q457 q459 qs2 q91 q460) rfl rfl rfl (by decide +kernel) ⟨Nat.le_of_ble_eq_true rfl, Nat.le_of_ble_eq_true rfl⟩) hI hK (hw.recv hI hK (cf_main) rfl) rfl hl.1 rfl (Nat.le_of_ble_eq_true rfl) dX0_write_56 ⟨Nat.le_of_ble_eq_true rfl, Nat.le_of_ble_eq_true rfl⟩) hS (fun H1 locs1 hI hS => ?_)
    obtain ⟨x3, ex3⟩ : ∃ z, z = (fnd x1 0) := ⟨_, rfl⟩
    rw [← ex3] at hI
    exact W.iret hx hb hr (fun t ht _ => ⟨rI (by first | (rw [a_write, shq_0 r_2]; rfl) | (rw [a_write, shq_n hs (shC_n hq)]; rfl) | (rw [a_write, shq_s hs (shC_s hq)]; simp only [if_pos n_36]; rfl)), ⟨x3, (by first | (rw [a_write, shq_0 r_2, ex3]; rw [ex1]; exact jk_fr _ _ _) | (rw [a_write, shq_n hs (shC_n hq), ex3, ex1]; exact jk_fr _ _ _) | (rw [a_write, shq_s hs (shC_s hq)]; simp only [if_pos n_36]; rw [ex3, ex1]; exact jk_fr _ _ _)), by rw [ht]; exact hI⟩, hS.F ht⟩) hS.2.2 dX0_write_59
  · skip
    obtain ⟨sn, hs, es0⟩ := inI_to (b := 3) rfl (by decide) r_2
    have hs : sn < 4 := by omega
    subst es0
    rcases hq : x.2.2.2 sn with _ | ⟨sa, t, sz, sg⟩
    · skip
      refine c_m (k_V (As := [.int (nI sn)]) (rest := []) F (k_X0_rowAt_n x sn hs hq) (cwV 1 hts (lw_V q878 q880 qs24 q91 q881) rfl rfl rfl (by decide +kernel) ⟨Nat.le_of_ble_eq_true rfl, Nat.le_of_ble_eq_true rfl⟩) hI hK (hw.recv hI hK (cf_main) rfl) rfl hl.1 rfl (Nat.le_of_ble_eq_true rfl) dX0_write_2 ⟨Nat.le_of_ble_eq_true rfl, Nat.le_of_ble_eq_true rfl⟩) hS (fun H1 locs1 hI hS => ?_)
      refine lv_astoreN (lv' := [(4, .null), (0, .ref (L 44)), (1, .int (nI sn)), (2, .int i), (3, .int v)]) hx hb dX0_write_5 hl (by decide) rfl (fun ls hl => ?_)
      refine lv_aload_n hx hb dX0_write_7 rfl (lv_at hl 1 rfl) ?_
      refine lv_aloadN hx hb dX0_write_8 (lv_at hl 0 rfl) ?_
      refine lv_ifnullN (tgt := 17) hx hb dX0_write_10 (by decide) ?_
      refine lv_iconst (v := 0) hx hb dX0_write_17 (by decide) ?_
      refine lv_iconst (v := 5) hx hb dX0_write_18 (by decide) ?_
      obtain ⟨x4, ex4⟩ : ∃ z, z = xr x 4 0 (nI 5) := ⟨_, rfl⟩
      refine x_catch (cf' := cfC D L x4) (by rw [ex4]; exact (k_X (n := 2) (As := [.int 0, .int 5]) (rest := []) F (k_X0_need_thr x 0 5 (rfl)) ⟨rfl, rfl⟩ ⟨Nat.le_of_ble_eq_true rfl, Nat.le_of_ble_eq_true rfl⟩ q885 q887 qs25 q91 q888 (by decide +kernel) hI hK (hw.recv hI hK (cf_main) rfl) rfl hl.1 rfl (Nat.le_of_ble_eq_true rfl) dX0_write_19 ⟨Nat.le_of_ble_eq_true rfl, Nat.le_of_ble_eq_true rfl⟩)) hS hown (hts _ q123) hhh (by decide) (by decide) (by decide) hK (ci := 1) rfl rfl (cf_refusal) (fun H1 locs1 hI hS => ?_)
      have hf_5 : x4.2.1 4 0 = nI 5 := by rw [ex4]; exact xr_at _ 4 0 _
      refine lv_astore (lv' := [(4, .ref (L 45)), (0, .ref (L 44)), (1, .int (nI sn)), (2, .int i), (3, .int v)]) hx hb dX0_write_48 hl (by decide) rfl (fun ls hl => ?_)
      refine lv_aload_n hx hb dX0_write_50 rfl (lv_at hl 1 rfl) ?_
      refine lv_aload hx hb dX0_write_51 (lv_at hl 0 rfl) ?_
      refine r_getN (C := RX1) (T := TX1) (N := 7) hx hb hts in_X1 hown hK hI (cf_refusal) rfl 6 (by decide) (nf_0 hK) (fun _ h => h) rfl dX0_write_53 ?_
      rw [hf_5]
      refine c_m (k_V (As := [.int (nI 5)]) (rest := []) F (k_X0_finding x4 5 (by decide)) (cwV 1 hts (lw_V q457 q459 qs2 q91 q460) rfl rfl rfl (by decide +kernel) ⟨Nat.le_of_ble_eq_true rfl, Nat.le_of_ble_eq_true rfl⟩) hI hK (hw.recv hI hK (cf_main) rfl) rfl hl.1 rfl (Nat.le_of_ble_eq_true rfl) dX0_write_56 ⟨Nat.le_of_ble_eq_true rfl, Nat.le_of_ble_eq_true rfl⟩) hS (fun H1 locs1 hI hS => ?_)
      obtain ⟨x6, ex6⟩ : ∃ z, z = (fnd x4 5) := ⟨_, rfl⟩
      rw [← ex6] at hI
      exact W.iret hx hb hr (fun t ht _ => ⟨rI (by first | (rw [a_write, shq_0 r_2]; rfl) | (rw [a_write, shq_n hs (shC_n hq)]; rfl) | (rw [a_write, shq_s hs (shC_s hq)]; simp only [if_pos n_36]; rfl)), ⟨x6, (by first | (rw [a_write, shq_0 r_2, ex6]; rw [ex4]; exact jk_fr _ _ _) | (rw [a_write, shq_n hs (shC_n hq), ex6, ex4]; exact jk_fr _ _ _) | (rw [a_write, shq_s hs (shC_s hq)]; simp only [if_pos n_36]; rw [ex6, ex4]; exact jk_fr _ _ _)), by rw [ht]; exact hI⟩, hS.F ht⟩) hS.2.2 dX0_write_59
    · skip
      obtain ⟨hk3, hn, hsg⟩ := hsh sn hs _ _ _ _ hq
      refine c_m (k_V (As := [.int (nI sn)]) (rest := []) F (k_X0_rowAt_r x sn hs sa t sz sg hq) (cwV 1 hts (lw_V q878 q880 qs24 q91 q881) rfl rfl rfl (by decide +kernel) ⟨Nat.le_of_ble_eq_true rfl, Nat.le_of_ble_eq_true rfl⟩) hI hK (hw.recv hI hK (cf_main) rfl) rfl hl.1 rfl (Nat.le_of_ble_eq_true rfl) dX0_write_2 ⟨Nat.le_of_ble_eq_true rfl, Nat.le_of_ble_eq_true rfl⟩) hS (fun H1 locs1 hI hS => ?_)
      refine lv_astore (lv' := [(4, .ref sa), (0, .ref (L 44)), (1, .int (nI sn)), (2, .int i), (3, .int v)]) hx hb dX0_write_5 hl (by decide) rfl (fun ls hl => ?_)
      refine lv_aload_n hx hb dX0_write_7 rfl (lv_at hl 1 rfl) ?_
      refine lv_aload hx hb dX0_write_8 (lv_at hl 0 rfl) ?_
      refine lv_ifnull hx hb dX0_write_10 ?_
      refine lv_iconst (v := 1) hx hb dX0_write_13 (by decide) ?_
      refine lv_goto (tgt := 18) hx hb dX0_write_14 (by decide) ?_
      refine lv_iconst (v := 5) hx hb dX0_write_18 (by decide) ?_
      refine c_m (k_V (As := [.int 1, .int 5]) (rest := []) F (k_X0_need_ok x 1 5 (by decide)) (cwV 2 hts (lw_V q885 q887 qs25 q91 q888) rfl rfl rfl (by decide +kernel) ⟨Nat.le_of_ble_eq_true rfl, Nat.le_of_ble_eq_true rfl⟩) hI hK (hw.recv hI hK (cf_main) rfl) rfl hl.1 rfl (Nat.le_of_ble_eq_true rfl) dX0_write_19 ⟨Nat.le_of_ble_eq_true rfl, Nat.le_of_ble_eq_true rfl⟩) hS (fun H1 locs1 hI hS => ?_)
      refine lv_aload_n hx hb dX0_write_22 rfl (lv_at hl 1 rfl) ?_
      refine lv_iload_n hx hb dX0_write_23 rfl (lv_at hl 3 rfl) ?_
      refine lv_iconst (v := 0) hx hb dX0_write_24 (by decide) ?_
      refine lv_aload hx hb dX0_write_25 (lv_at hl 0 rfl) ?_
      refine c_r (k_SI (As := [.ref sa]) (rest := [.int 0, .int i, .ref (L 44)]) F (k_X0_length x sn sa t sz sg hs (hq) hk3 hn) (va_cwS 1 hts (lw_S q897 q898 q91 q899) rfl rfl rfl (by decide +kernel) ⟨Nat.le_of_ble_eq_true rfl, Nat.le_of_ble_eq_true rfl⟩) hI hK rfl hl.1 rfl (Nat.le_of_ble_eq_true rfl) dX0_write_27 ⟨Nat.le_of_ble_eq_true rfl, Nat.le_of_ble_eq_true rfl⟩) ?_
      refine lv_iconst (v := 1) hx hb dX0_write_30 (by decide) ?_
      refine lv_isub hx hb dX0_write_31 ?_
      refine c_r (k_S (As := [.int i, .int 0, .int ((nI sz) - (1 : Int32))]) (rest := [.ref (L 44)]) F (k_X0_in i 0 ((nI sz) - (1 : Int32))) (va_cwS 3 hts (lw_S q439 q440 q91 q441) rfl rfl rfl (by decide +kernel) ⟨Nat.le_of_ble_eq_true rfl, Nat.le_of_ble_eq_true rfl⟩) rfl hl.1 rfl (Nat.le_of_ble_eq_true rfl) dX0_write_32 ⟨Nat.le_of_ble_eq_true rfl, Nat.le_of_ble_eq_true rfl⟩) ?_
      refine lv_iconst (v := 0) hx hb dX0_write_35 (by decide) ?_
      by_cases n_36 : (inI i 0 ((nI sz) - (1 : Int32))) = 0
      · skip
        obtain ⟨x7, ex7⟩ : ∃ z, z = xr x 4 0 (nI 0) := ⟨_, rfl⟩
        refine x_catch (cf' := cfC D L x7) (by rw [ex7]; exact (k_X (n := 2) (As := [.int (inI i 0 ((nI sz) - (1 : Int32))), .int 0]) (rest := []) F (k_X0_need_thr x (inI i 0 ((nI sz) - (1 : Int32))) 0 (n_36)) ⟨rfl, rfl⟩ ⟨Nat.le_of_ble_eq_true rfl, Nat.le_of_ble_eq_true rfl⟩ q885 q887 qs25 q91 q888 (by decide +kernel) hI hK (hw.recv hI hK (cf_main) rfl) rfl hl.1 rfl (Nat.le_of_ble_eq_true rfl) dX0_write_36 ⟨Nat.le_of_ble_eq_true rfl, Nat.le_of_ble_eq_true rfl⟩)) hS hown (hts _ q123) hhh (by decide) (by decide) (by decide) hK (ci := 1) rfl rfl (cf_refusal) (fun H1 locs1 hI hS => ?_)
        have hf_8 : x7.2.1 4 0 = nI 0 := by rw [ex7]; exact xr_at _ 4 0 _
        refine lv_astore (lv' := [(4, .ref (L 45)), (0, .ref (L 44)), (1, .int (nI sn)), (2, .int i), (3, .int v)]) hx hb dX0_write_48 hl (by decide) rfl (fun ls hl => ?_)
        refine lv_aload_n hx hb dX0_write_50 rfl (lv_at hl 1 rfl) ?_
        refine lv_aload hx hb dX0_write_51 (lv_at hl 0 rfl) ?_
        refine r_getN (C := RX1) (T := TX1) (N := 7) hx hb hts in_X1 hown hK hI (cf_refusal) rfl 6 (by decide) (nf_0 hK) (fun _ h => h) rfl dX0_write_53 ?_
        rw [hf_8]
        refine c_m (k_V (As := [.int (nI 0)]) (rest := []) F (k_X0_finding x7 0 (by decide)) (cwV 1 hts (lw_V q457 q459 qs2 q91 q460) rfl rfl rfl (by decide +kernel) ⟨Nat.le_of_ble_eq_true rfl, Nat.le_of_ble_eq_true rfl⟩) hI hK (hw.recv hI hK (cf_main) rfl) rfl hl.1 rfl (Nat.le_of_ble_eq_true rfl) dX0_write_56 ⟨Nat.le_of_ble_eq_true rfl, Nat.le_of_ble_eq_true rfl⟩) hS (fun H1 locs1 hI hS => ?_)
        obtain ⟨x9, ex9⟩ : ∃ z, z = (fnd x7 0) := ⟨_, rfl⟩
        rw [← ex9] at hI
        exact W.iret hx hb hr (fun t ht _ => ⟨rI (by first | (rw [a_write, shq_0 r_2]; rfl) | (rw [a_write, shq_n hs (shC_n hq)]; rfl) | (rw [a_write, shq_s hs (shC_s hq)]; simp only [if_pos n_36]; rfl)), ⟨x9, (by first | (rw [a_write, shq_0 r_2, ex9]; rw [ex7]; exact jk_fr _ _ _) | (rw [a_write, shq_n hs (shC_n hq), ex9, ex7]; exact jk_fr _ _ _) | (rw [a_write, shq_s hs (shC_s hq)]; simp only [if_pos n_36]; rw [ex9, ex7]; exact jk_fr _ _ _)), by rw [ht]; exact hI⟩, hS.F ht⟩) hS.2.2 dX0_write_59
      · skip
        obtain ⟨j, hj, ei⟩ := in_sz hn n_36
        subst ei
        refine c_m (k_V (As := [.int (inI (nI j) 0 ((nI sz) - (1 : Int32))), .int 0]) (rest := []) F (k_X0_need_ok x (inI (nI j) 0 ((nI sz) - (1 : Int32))) 0 (n_36)) (cwV 2 hts (lw_V q885 q887 qs25 q91 q888) rfl rfl rfl (by decide +kernel) ⟨Nat.le_of_ble_eq_true rfl, Nat.le_of_ble_eq_true rfl⟩) hI hK (hw.recv hI hK (cf_main) rfl) rfl hl.1 rfl (Nat.le_of_ble_eq_true rfl) dX0_write_36 ⟨Nat.le_of_ble_eq_true rfl, Nat.le_of_ble_eq_true rfl⟩) hS (fun H1 locs1 hI hS => ?_)
        refine lv_aload hx hb dX0_write_39 (lv_at hl 0 rfl) ?_
        refine lv_iload_n hx hb dX0_write_41 rfl (lv_at hl 3 rfl) ?_
        refine lv_iload_n hx hb dX0_write_42 rfl (lv_at hl 4 rfl) ?_
        refine c_m (k_SI (As := [.ref sa, .int (nI j), .int v]) (rest := []) F (k_X0_lay x sn sa t sz sg hs (hq) hk3 hn j v (by omega)) (va_cwS 3 hts (lw_S q1108 q1109 q91 q1110) rfl rfl rfl (by decide +kernel) ⟨Nat.le_of_ble_eq_true rfl, Nat.le_of_ble_eq_true rfl⟩) hI hK rfl hl.1 rfl (Nat.le_of_ble_eq_true rfl) dX0_write_43 ⟨Nat.le_of_ble_eq_true rfl, Nat.le_of_ble_eq_true rfl⟩) hS (fun H1 locs1 hI hS => ?_)
        obtain ⟨x10, ex10⟩ : ∃ z, z = xsh x sn (some (sa, t, sz, upd sg j (shn t v))) := ⟨_, rfl⟩
        rw [← ex10] at hI
        refine lv_iconst (v := 1) hx hb dX0_write_46 (by decide) ?_
        exact W.iret hx hb hr (fun t ht _ => ⟨rI (by rw [a_write, shq_s hs (shC_s hq)]; simp only [if_neg n_36]; rfl), ⟨x10, (by rw [a_write, shq_s hs (shC_s hq)]; simp only [if_neg n_36]; refine jk_eq ?_; rw [ex10, aCW, nI_clamp (by omega), nI_clamp (by omega), hq]; rfl), by rw [ht]; exact hI⟩, hS.F ht⟩) hS.2.2 dX0_write_47
theorem k_X0_slide_0 {l : Launch} {D : va_G} {L : Nat → Nat} {A : Nat → Prop} (x : cst) (sn sa sz : Nat) (sg : Nat → Int32) (hs4 : sn < 4) (hq : x.2.2.2 sn = some (sa, 0, sz, sg)) (hn40 : sz ≤ 40) (sn2 sa2 sz2 : Nat) (sg2 : Nat → Int32) (hs42 : sn2 < 4) (hq2 : x.2.2.2 sn2 = some (sa2, 0, sz2, sg2)) (hn402 : sz2 ≤ 40) (σ δ ν : Nat) (b1 : σ + ν ≤ sz) (b2 : δ + ν ≤ sz2) (hfit : ∀ i, i < sz → shn 0 (sg i) = sg i) : Met l yX0_slide (ws_ yX0_slide cX0_slide 5 none) ({ frames := 1, cells := 0, slots := 0, locals := 40 } : Room) (va_Pc [.ref sa, .int (nI σ), .ref sa2, .int (nI δ), .int (nI ν)] (pI D (cfC D L x) A)) (nQ D (cfC D L (xsh x sn2 (some (sa2, 0, sz2, va_cpy sg sg2 σ δ ν)))) A none) 0 0 A := by
  refine met_I (by decide) rfl (Nat.le_of_ble_eq_true rfl) ?_
  intro p e s m below meth c ls hx hb hr hml hown hts hlocks hl hI hK
  have F : CallFix p m c cX0_slide 5 s _ lw_all RX0 := ⟨hx, hb, hml, hown, hts⟩
  have hl : lv_has ls 5 [(0, .ref sa), (1, .int (nI σ)), (2, .ref sa2), (3, .int (nI δ)), (4, .int (nI ν))] := hl
  have hS : va_S A s.heap s.heap [] := va_S.rf
  refine lv_aload_n hx hb dX0_slide_0 rfl (lv_at hl 0 rfl) ?_
  refine r_instA hx hb hown (hts _ q900) hI (cf_sh4 (k := sn) hs4 hq) (va_nm_byte (hK.1.2 1 _ rfl).2) dX0_slide_1 ?_
  refine lv_if_eq (tgt := 25) hx hb dX0_slide_4 (by decide) (fun c_4 => ?_) (fun c_4 => ?_)
  · skip
    have c_4 : 1 = 0 := (neq (a := 1) (b := 0) (rfl) (rfl) (by omega) (by omega)).mp c_4
    exact absurd c_4 (by decide)
  · skip
    have c_4 : ¬ 1 = 0 := fun z => c_4 ((neq (a := 1) (b := 0) (rfl) (rfl) (by omega) (by omega)).mpr z)
    refine lv_aload_n hx hb dX0_slide_7 rfl (lv_at hl 0 rfl) ?_
    refine r_castA hx hb hown (hts _ q900) hI (cf_sh4 (k := sn) hs4 hq) (va_nm_byte (hK.1.2 1 _ rfl).2) dX0_slide_8 ?_
    refine lv_iload_n hx hb dX0_slide_11 rfl (lv_at hl 1 rfl) ?_
    refine lv_aload_n hx hb dX0_slide_12 rfl (lv_at hl 2 rfl) ?_
    refine r_castA hx hb hown (hts _ q900) hI (cf_sh4 (k := sn2) hs42 hq2) (va_nm_byte (hK.1.2 1 _ rfl).2) dX0_slide_13 ?_
    refine lv_iload_n hx hb dX0_slide_16 rfl (lv_at hl 3 rfl) ?_
    refine lv_iload hx hb dX0_slide_17 (lv_at hl 4 rfl) ?_
    obtain ⟨x1, ex1⟩ : ∃ z, z = xsh x sn2 (some (sa2, 0, sz2, va_cpy sg sg2 σ δ ν)) := ⟨_, rfl⟩
    refine n_copy (cf' := cfC D L x1) (σ := σ) (δ := δ) (ν := ν) (g' := va_cpy sg sg2 σ δ ν) hx hb (by rw [hml]; exact hl.1.symm) hown (hts _ q1121) (hts _ q785) (hts _ q784) (hts _ q110) hK hI hS 1 rfl rfl (cf_sh4 (k := sn) hs4 hq) (cf_sh4 (k := sn2) hs42 hq2) rfl rfl rfl (by omega) (by omega) (by omega) (by omega) (fun i hi => shn_fit (t := 0) (by decide) (hfit _ (by omega))) (fun _ _ => rfl) (by rw [ex1]; exact cs_sh hs42 hq2) (Nat.le_of_ble_eq_true rfl) (Nat.le_of_ble_eq_true rfl) dX0_slide_19 (fun H1 locs1 hI hS => ?_)
    refine lv_goto (tgt := 65) hx hb dX0_slide_22 (by decide) ?_
    exact W.vret hx hb hr (fun t ht _ => ⟨rfl, by rw [ht]; exact hw_eq hI (congrArg (cfC D L) (ex1)), hS.F ht⟩) hS.2.2 dX0_slide_65
theorem k_X0_slide_1 {l : Launch} {D : va_G} {L : Nat → Nat} {A : Nat → Prop} (x : cst) (sn sa sz : Nat) (sg : Nat → Int32) (hs4 : sn < 4) (hq : x.2.2.2 sn = some (sa, 1, sz, sg)) (hn40 : sz ≤ 40) (sn2 sa2 sz2 : Nat) (sg2 : Nat → Int32) (hs42 : sn2 < 4) (hq2 : x.2.2.2 sn2 = some (sa2, 1, sz2, sg2)) (hn402 : sz2 ≤ 40) (σ δ ν : Nat) (b1 : σ + ν ≤ sz) (b2 : δ + ν ≤ sz2) (hfit : ∀ i, i < sz → shn 1 (sg i) = sg i) : Met l yX0_slide (ws_ yX0_slide cX0_slide 5 none) ({ frames := 1, cells := 0, slots := 0, locals := 40 } : Room) (va_Pc [.ref sa, .int (nI σ), .ref sa2, .int (nI δ), .int (nI ν)] (pI D (cfC D L x) A)) (nQ D (cfC D L (xsh x sn2 (some (sa2, 1, sz2, va_cpy sg sg2 σ δ ν)))) A none) 0 0 A := by
  refine met_I (by decide) rfl (Nat.le_of_ble_eq_true rfl) ?_
  intro p e s m below meth c ls hx hb hr hml hown hts hlocks hl hI hK
  have F : CallFix p m c cX0_slide 5 s _ lw_all RX0 := ⟨hx, hb, hml, hown, hts⟩
  have hl : lv_has ls 5 [(0, .ref sa), (1, .int (nI σ)), (2, .ref sa2), (3, .int (nI δ)), (4, .int (nI ν))] := hl
  have hS : va_S A s.heap s.heap [] := va_S.rf
  refine lv_aload_n hx hb dX0_slide_0 rfl (lv_at hl 0 rfl) ?_
  refine va_instNo hx hb hown (hts _ q900) (hK.2.2.2.2 ("[S", "[B") (by decide)) (arr_recv hI (cf_sh4 (k := sn) hs4 hq) (va_nm_short (hK.1.2 2 _ rfl).2)) dX0_slide_1 ?_
  refine lv_if_eq (tgt := 25) hx hb dX0_slide_4 (by decide) (fun c_4 => ?_) (fun c_4 => ?_)
  · skip
    have c_4 : 0 = 0 := (neq (a := 0) (b := 0) (rfl) (rfl) (by omega) (by omega)).mp c_4
    refine lv_aload_n hx hb dX0_slide_25 rfl (lv_at hl 0 rfl) ?_
    refine r_instA hx hb hown (hts _ q901) hI (cf_sh4 (k := sn) hs4 hq) (va_nm_short (hK.1.2 2 _ rfl).2) dX0_slide_26 ?_
    refine lv_if_eq (tgt := 50) hx hb dX0_slide_29 (by decide) (fun c_29 => ?_) (fun c_29 => ?_)
    · skip
      have c_29 : 1 = 0 := (neq (a := 1) (b := 0) (rfl) (rfl) (by omega) (by omega)).mp c_29
      exact absurd c_29 (by decide)
    · skip
      have c_29 : ¬ 1 = 0 := fun z => c_29 ((neq (a := 1) (b := 0) (rfl) (rfl) (by omega) (by omega)).mpr z)
      refine lv_aload_n hx hb dX0_slide_32 rfl (lv_at hl 0 rfl) ?_
      refine r_castA hx hb hown (hts _ q901) hI (cf_sh4 (k := sn) hs4 hq) (va_nm_short (hK.1.2 2 _ rfl).2) dX0_slide_33 ?_
      refine lv_iload_n hx hb dX0_slide_36 rfl (lv_at hl 1 rfl) ?_
      refine lv_aload_n hx hb dX0_slide_37 rfl (lv_at hl 2 rfl) ?_
      refine r_castA hx hb hown (hts _ q901) hI (cf_sh4 (k := sn2) hs42 hq2) (va_nm_short (hK.1.2 2 _ rfl).2) dX0_slide_38 ?_
      refine lv_iload_n hx hb dX0_slide_41 rfl (lv_at hl 3 rfl) ?_
      refine lv_iload hx hb dX0_slide_42 (lv_at hl 4 rfl) ?_
      obtain ⟨x1, ex1⟩ : ∃ z, z = xsh x sn2 (some (sa2, 1, sz2, va_cpy sg sg2 σ δ ν)) := ⟨_, rfl⟩
      refine n_copy (cf' := cfC D L x1) (σ := σ) (δ := δ) (ν := ν) (g' := va_cpy sg sg2 σ δ ν) hx hb (by rw [hml]; exact hl.1.symm) hown (hts _ q1121) (hts _ q785) (hts _ q784) (hts _ q110) hK hI hS 2 rfl rfl (cf_sh4 (k := sn) hs4 hq) (cf_sh4 (k := sn2) hs42 hq2) rfl rfl rfl (by omega) (by omega) (by omega) (by omega) (fun i hi => shn_fit (t := 1) (by decide) (hfit _ (by omega))) (fun _ _ => rfl) (by rw [ex1]; exact cs_sh hs42 hq2) (Nat.le_of_ble_eq_true rfl) (Nat.le_of_ble_eq_true rfl) dX0_slide_44 (fun H1 locs1 hI hS => ?_)
      refine lv_goto (tgt := 65) hx hb dX0_slide_47 (by decide) ?_
      exact W.vret hx hb hr (fun t ht _ => ⟨rfl, by rw [ht]; exact hw_eq hI (congrArg (cfC D L) (ex1)), hS.F ht⟩) hS.2.2 dX0_slide_65
  · skip
    have c_4 : ¬ 0 = 0 := fun z => c_4 ((neq (a := 0) (b := 0) (rfl) (rfl) (by omega) (by omega)).mpr z)
    exact absurd (by decide) c_4
theorem k_X0_slide_2 {l : Launch} {D : va_G} {L : Nat → Nat} {A : Nat → Prop} (x : cst) (sn sa sz : Nat) (sg : Nat → Int32) (hs4 : sn < 4) (hq : x.2.2.2 sn = some (sa, 2, sz, sg)) (hn40 : sz ≤ 40) (sn2 sa2 sz2 : Nat) (sg2 : Nat → Int32) (hs42 : sn2 < 4) (hq2 : x.2.2.2 sn2 = some (sa2, 2, sz2, sg2)) (hn402 : sz2 ≤ 40) (σ δ ν : Nat) (b1 : σ + ν ≤ sz) (b2 : δ + ν ≤ sz2) (hfit : ∀ i, i < sz → shn 2 (sg i) = sg i) : Met l yX0_slide (ws_ yX0_slide cX0_slide 5 none) ({ frames := 1, cells := 0, slots := 0, locals := 40 } : Room) (va_Pc [.ref sa, .int (nI σ), .ref sa2, .int (nI δ), .int (nI ν)] (pI D (cfC D L x) A)) (nQ D (cfC D L (xsh x sn2 (some (sa2, 2, sz2, va_cpy sg sg2 σ δ ν)))) A none) 0 0 A := by
  refine met_I (by decide) rfl (Nat.le_of_ble_eq_true rfl) ?_
  intro p e s m below meth c ls hx hb hr hml hown hts hlocks hl hI hK
  have F : CallFix p m c cX0_slide 5 s _ lw_all RX0 := ⟨hx, hb, hml, hown, hts⟩
  have hl : lv_has ls 5 [(0, .ref sa), (1, .int (nI σ)), (2, .ref sa2), (3, .int (nI δ)), (4, .int (nI ν))] := hl
  have hS : va_S A s.heap s.heap [] := va_S.rf
  refine lv_aload_n hx hb dX0_slide_0 rfl (lv_at hl 0 rfl) ?_
  refine va_instNo hx hb hown (hts _ q900) (hK.2.2.2.2 ("[I", "[B") (by decide)) (arr_recv hI (cf_sh4 (k := sn) hs4 hq) (va_nm_int (hK.1.2 0 _ rfl).2)) dX0_slide_1 ?_
  refine lv_if_eq (tgt := 25) hx hb dX0_slide_4 (by decide) (fun c_4 => ?_) (fun c_4 => ?_)
  · skip
    have c_4 : 0 = 0 := (neq (a := 0) (b := 0) (rfl) (rfl) (by omega) (by omega)).mp c_4
    refine lv_aload_n hx hb dX0_slide_25 rfl (lv_at hl 0 rfl) ?_
    refine va_instNo hx hb hown (hts _ q901) (hK.2.2.2.2 ("[I", "[S") (by decide)) (arr_recv hI (cf_sh4 (k := sn) hs4 hq) (va_nm_int (hK.1.2 0 _ rfl).2)) dX0_slide_26 ?_
    refine lv_if_eq (tgt := 50) hx hb dX0_slide_29 (by decide) (fun c_29 => ?_) (fun c_29 => ?_)
    · skip
      have c_29 : 0 = 0 := (neq (a := 0) (b := 0) (rfl) (rfl) (by omega) (by omega)).mp c_29
      refine lv_aload_n hx hb dX0_slide_50 rfl (lv_at hl 0 rfl) ?_
      refine r_castA hx hb hown (hts _ q902) hI (cf_sh4 (k := sn) hs4 hq) (va_nm_int (hK.1.2 0 _ rfl).2) dX0_slide_51 ?_
      refine lv_iload_n hx hb dX0_slide_54 rfl (lv_at hl 1 rfl) ?_
      refine lv_aload_n hx hb dX0_slide_55 rfl (lv_at hl 2 rfl) ?_
      refine r_castA hx hb hown (hts _ q902) hI (cf_sh4 (k := sn2) hs42 hq2) (va_nm_int (hK.1.2 0 _ rfl).2) dX0_slide_56 ?_
      refine lv_iload_n hx hb dX0_slide_59 rfl (lv_at hl 3 rfl) ?_
      refine lv_iload hx hb dX0_slide_60 (lv_at hl 4 rfl) ?_
      obtain ⟨x1, ex1⟩ : ∃ z, z = xsh x sn2 (some (sa2, 2, sz2, va_cpy sg sg2 σ δ ν)) := ⟨_, rfl⟩
      refine n_copy (cf' := cfC D L x1) (σ := σ) (δ := δ) (ν := ν) (g' := va_cpy sg sg2 σ δ ν) hx hb (by rw [hml]; exact hl.1.symm) hown (hts _ q1121) (hts _ q785) (hts _ q784) (hts _ q110) hK hI hS 0 rfl rfl (cf_sh4 (k := sn) hs4 hq) (cf_sh4 (k := sn2) hs42 hq2) rfl rfl rfl (by omega) (by omega) (by omega) (by omega) (fun i hi => shn_fit (t := 2) (by decide) (hfit _ (by omega))) (fun _ _ => rfl) (by rw [ex1]; exact cs_sh hs42 hq2) (Nat.le_of_ble_eq_true rfl) (Nat.le_of_ble_eq_true rfl) dX0_slide_62 (fun H1 locs1 hI hS => ?_)
      exact W.vret hx hb hr (fun t ht _ => ⟨rfl, by rw [ht]; exact hw_eq hI (congrArg (cfC D L) (ex1)), hS.F ht⟩) hS.2.2 dX0_slide_65
    · skip
      have c_29 : ¬ 0 = 0 := fun z => c_29 ((neq (a := 0) (b := 0) (rfl) (rfl) (by omega) (by omega)).mpr z)
      exact absurd (by decide) c_29
  · skip
    have c_4 : ¬ 0 = 0 := fun z => c_4 ((neq (a := 0) (b := 0) (rfl) (rfl) (by omega) (by omega)).mpr z)
    exact absurd (by decide) c_4
theorem k_X0_slide {l : Launch} {D : va_G} {L : Nat → Nat} {A : Nat → Prop} (x : cst) (sn sa t sz : Nat) (sg : Nat → Int32) (hs4 : sn < 4) (hq : x.2.2.2 sn = some (sa, t, sz, sg)) (ht3 : t < 3) (hn40 : sz ≤ 40) (sn2 sa2 sz2 : Nat) (sg2 : Nat → Int32) (hs42 : sn2 < 4) (hq2 : x.2.2.2 sn2 = some (sa2, t, sz2, sg2)) (hn402 : sz2 ≤ 40) (σ δ ν : Nat) (b1 : σ + ν ≤ sz) (b2 : δ + ν ≤ sz2) (hfit : ∀ i, i < sz → shn t (sg i) = sg i) : Met l yX0_slide (ws_ yX0_slide cX0_slide 5 none) ({ frames := 1, cells := 0, slots := 0, locals := 40 } : Room) (va_Pc [.ref sa, .int (nI σ), .ref sa2, .int (nI δ), .int (nI ν)] (pI D (cfC D L x) A)) (nQ D (cfC D L (xsh x sn2 (some (sa2, t, sz2, va_cpy sg sg2 σ δ ν)))) A none) 0 0 A := by
  match t, ht3, hq, hq2, hfit with
  | 0, _, hq, hq2, hfit => exact k_X0_slide_0 x sn sa sz sg hs4 hq hn40 sn2 sa2 sz2 sg2 hs42 hq2 hn402 σ δ ν b1 b2 hfit
  | 1, _, hq, hq2, hfit => exact k_X0_slide_1 x sn sa sz sg hs4 hq hn40 sn2 sa2 sz2 sg2 hs42 hq2 hn402 σ δ ν b1 b2 hfit
  | 2, _, hq, hq2, hfit => exact k_X0_slide_2 x sn sa sz sg hs4 hq hn40 sn2 sa2 sz2 sg2 hs42 hq2 hn402 σ δ ν b1 b2 hfit
theorem k_X0_loads {l : Launch} {D : va_G} {L : Nat → Nat} {A : Nat → Prop} (x : cst) (sn sa t sz : Nat) (sg : Nat → Int32) (hs4 : sn < 4) (hq : x.2.2.2 sn = some (sa, t, sz, sg)) (ht3 : t < 3) (hn40 : sz ≤ 40) : Met l yX0_loads (ws_ yX0_loads cX0_loads 3 (some .int)) ({ frames := 3, cells := 0, slots := 0, locals := 62 } : Room) (va_Pc [.ref (L 44), .ref sa] (pI D (cfC D L x) A)) (nQ D (cfC D L (xs x 0 (ldW (t, sz, sg) (x.1 0) (ldN (t, sz, sg))))) A (some (.int (nI (ldN (t, sz, sg)))))) 0 0 A := by
  refine met_I (by decide) rfl (Nat.le_of_ble_eq_true rfl) ?_
  intro p e s m below meth c ls hx hb hr hml hown hts hlocks hl hI hK
  have F : CallFix p m c cX0_loads 3 s _ lw_all RX0 := ⟨hx, hb, hml, hown, hts⟩
  have hl : lv_has ls 3 [(0, .ref (L 44)), (1, .ref sa)] := hl
  have hS : va_S A s.heap s.heap [] := va_S.rf
  refine lv_iconst (v := 0) hx hb dX0_loads_0 (by decide) ?_
  refine lv_istore_n (lv' := [(2, .int 0), (0, .ref (L 44)), (1, .ref sa)]) hx hb dX0_loads_1 rfl hl (by decide) rfl (fun ls hl => ?_)
  have lp2 : ∀ (fuel : Nat) (i : Nat), (i ≤ 6) → (i ≤ sz) → (fstB (ldP (t, sz, sg)) 7 0 = fstB (ldP (t, sz, sg)) (7 - i) i) → 6 - i < fuel → ∀ (v2 : Int32), v2 = nI i → ∀ (xc2 : cst), xc2 = xs x 0 (ldW (t, sz, sg) (x.1 0) i) → ∀ (H : Heap) (locs : List Loc), hw D (cfC D L xc2) A H → va_S A s.heap H locs → ∀ (ls : Array Slot), lv_has ls 3 [(0, .ref (L 44)), (1, .ref sa), (2, .int v2)] → W p l e ({ frames := 3, cells := 0, slots := 0, locals := 62 } : Room) s m ([.ref (L 44), .ref sa] : List Value).toArray below meth c H locs 0 0 (MQ below (nQ D (cfC D L (xs x 0 (ldW (t, sz, sg) (x.1 0) (ldN (t, sz, sg))))) A (some (.int (nI (ldN (t, sz, sg)))))) ([.ref (L 44), .ref sa] : List Value).toArray s 0 0 A) (F0 m 2 ls []) := by
    intro fuel
    induction fuel with
    | zero => intro i hi hi2 hp hf; exact absurd hf (Nat.not_lt_zero _)
    | succ fuel ih2 =>
      intro i hi hi2 hp hf2 v2 e2  xc2 exc2 H locs hI hS ls hl
      subst e2
      have hq_xc2 : xc2.2.2.2 sn = some (sa, t, sz, sg) := by rw [exc2]; exact hq
      refine lv_iload_n hx hb dX0_loads_2 rfl (lv_at hl 2 rfl) ?_
      refine lv_aload_n hx hb dX0_loads_3 rfl (lv_at hl 1 rfl) ?_
      refine c_r (k_SI (As := [.ref sa]) (rest := [.int (nI i)]) F (k_X0_length xc2 sn sa t sz sg hs4 (hq_xc2) ht3 hn40) (va_cwS 1 hts (lw_S q897 q898 q91 q899) rfl rfl rfl (by decide +kernel) ⟨Nat.le_of_ble_eq_true rfl, Nat.le_of_ble_eq_true rfl⟩) hI hK rfl hl.1 rfl (Nat.le_of_ble_eq_true rfl) dX0_loads_4 ⟨Nat.le_of_ble_eq_true rfl, Nat.le_of_ble_eq_true rfl⟩) ?_
      refine lv_icmp_ge (tgt := 48) hx hb dX0_loads_7 (by decide) (fun c_7 => ?_) (fun c_7 => ?_)
      · skip
        have c_7 : sz ≤ i := (nle (a := sz) (b := i) (rfl) (rfl) (by omega) (by omega)).mp c_7
        have hE : ldN (t, sz, sg) = i := by rw [ldN, hp]; exact fstB_stop (ld_st (z := (t, sz, sg)) (i := i) (by first | (left; show sz ≤ i; omega) | (right; left; have := (in_pl (by omega)).mp c_14; omega) | (right; right; exact c_25))) (by omega)
        refine lv_iload_n hx hb dX0_loads_48 rfl (lv_at hl 2 rfl) ?_
        exact W.iret hx hb hr (fun t ht _ => ⟨rI (by rw [hE]), by rw [ht]; exact hw_eq hI (congrArg (cfC D L) (by rw [hE, exc2])), hS.F ht⟩) hS.2.2 dX0_loads_49
      · skip
        have c_7 : ¬ sz ≤ i := fun z => c_7 ((nle (a := sz) (b := i) (rfl) (rfl) (by omega) (by omega)).mpr z)
        refine lv_iload_n hx hb dX0_loads_10 rfl (lv_at hl 2 rfl) ?_
        refine c_r (k_S (As := [.int (nI i)]) (rest := []) F (k_X0_isPlace (nI i)) (va_cwS 1 hts (lw_S q436 q437 q91 q438) rfl rfl rfl (by decide +kernel) ⟨Nat.le_of_ble_eq_true rfl, Nat.le_of_ble_eq_true rfl⟩) rfl hl.1 rfl (Nat.le_of_ble_eq_true rfl) dX0_loads_11 ⟨Nat.le_of_ble_eq_true rfl, Nat.le_of_ble_eq_true rfl⟩) ?_
        refine lv_if_eq (tgt := 48) hx hb dX0_loads_14 (by decide) (fun c_14 => ?_) (fun c_14 => ?_)
        · skip
          have hE : ldN (t, sz, sg) = i := by rw [ldN, hp]; exact fstB_stop (ld_st (z := (t, sz, sg)) (i := i) (by first | (left; show sz ≤ i; omega) | (right; left; have := (in_pl (by omega)).mp c_14; omega) | (right; right; exact c_25))) (by omega)
          refine lv_iload_n hx hb dX0_loads_48 rfl (lv_at hl 2 rfl) ?_
          exact W.iret hx hb hr (fun t ht _ => ⟨rI (by rw [hE]), by rw [ht]; exact hw_eq hI (congrArg (cfC D L) (by rw [hE, exc2])), hS.F ht⟩) hS.2.2 dX0_loads_49
        · skip
          have hi6 : i < 6 := by have := mt (in_pl (by omega)).mpr c_14; omega
          refine lv_aload_n hx hb dX0_loads_17 rfl (lv_at hl 1 rfl) ?_
          refine lv_iload_n hx hb dX0_loads_18 rfl (lv_at hl 2 rfl) ?_
          refine c_r (k_SI (As := [.ref sa, .int (nI i)]) (rest := []) F (k_X0_number xc2 sn sa t sz sg hs4 (hq_xc2) ht3 hn40 i (by omega)) (va_cwS 2 hts (lw_S q903 q904 q91 q905) rfl rfl rfl (by decide +kernel) ⟨Nat.le_of_ble_eq_true rfl, Nat.le_of_ble_eq_true rfl⟩) hI hK rfl hl.1 rfl (Nat.le_of_ble_eq_true rfl) dX0_loads_19 ⟨Nat.le_of_ble_eq_true rfl, Nat.le_of_ble_eq_true rfl⟩) ?_
          refine c_r (k_S (As := [.int (sg i)]) (rest := []) F (k_X0_isSaying (sg i)) (va_cwS 1 hts (lw_S q442 q443 q91 q444) rfl rfl rfl (by decide +kernel) ⟨Nat.le_of_ble_eq_true rfl, Nat.le_of_ble_eq_true rfl⟩) rfl hl.1 rfl (Nat.le_of_ble_eq_true rfl) dX0_loads_22 ⟨Nat.le_of_ble_eq_true rfl, Nat.le_of_ble_eq_true rfl⟩) ?_
          refine lv_if_eq (tgt := 48) hx hb dX0_loads_25 (by decide) (fun c_25 => ?_) (fun c_25 => ?_)
          · skip
            have hE : ldN (t, sz, sg) = i := by rw [ldN, hp]; exact fstB_stop (ld_st (z := (t, sz, sg)) (i := i) (by first | (left; show sz ≤ i; omega) | (right; left; have := (in_pl (by omega)).mp c_14; omega) | (right; right; exact c_25))) (by omega)
            refine lv_iload_n hx hb dX0_loads_48 rfl (lv_at hl 2 rfl) ?_
            exact W.iret hx hb hr (fun t ht _ => ⟨rI (by rw [hE]), by rw [ht]; exact hw_eq hI (congrArg (cfC D L) (by rw [hE, exc2])), hS.F ht⟩) hS.2.2 dX0_loads_49
          · skip
            refine lv_aload_n hx hb dX0_loads_28 rfl (lv_at hl 0 rfl) ?_
            refine r_get (C := RX0) (T := TX0) (N := 11) hx hb hts in_X0 hown hK hI (cf_main) rfl 3 (by decide) (hts _ q401) (fun _ h => h) rfl dX0_loads_29 ?_
            refine r_getN (C := RX4) (T := TX4) (N := 7) hx hb hts in_X4 hown hK hI (cf_W (w := 0) (by decide)) rfl 0 (by decide) (nf_2 hK) (fun _ h => h) rfl dX0_loads_32 ?_
            refine lv_iload_n hx hb dX0_loads_35 rfl (lv_at hl 2 rfl) ?_
            refine lv_aload_n hx hb dX0_loads_36 rfl (lv_at hl 1 rfl) ?_
            refine lv_iload_n hx hb dX0_loads_37 rfl (lv_at hl 2 rfl) ?_
            refine c_r (k_SI (As := [.ref sa, .int (nI i)]) (rest := [.int (nI i), .ref (L (11 * 0 + 1))]) F (k_X0_number xc2 sn sa t sz sg hs4 (hq_xc2) ht3 hn40 i (by omega)) (va_cwS 2 hts (lw_S q903 q904 q91 q905) rfl rfl rfl (by decide +kernel) ⟨Nat.le_of_ble_eq_true rfl, Nat.le_of_ble_eq_true rfl⟩) hI hK rfl hl.1 rfl (Nat.le_of_ble_eq_true rfl) dX0_loads_38 ⟨Nat.le_of_ble_eq_true rfl, Nat.le_of_ble_eq_true rfl⟩) ?_
            obtain ⟨x1, ex1⟩ : ∃ z, z = xs xc2 0 (u2 (xc2.1 0) 0 i (sg i)) := ⟨_, rfl⟩
            refine n_iast (cf' := cfC D L x1) (k := i) hx hb hK hI hS (cf_list (w := 0) (by decide)) (rfl) (by omega) (by decide) (by rw [ex1]; exact cs_list (w := 0) (by decide)) dX0_loads_41 (fun H1 locs1 hI hS => ?_)
            refine lv_iinc (v := (nI (i + 1))) (lv' := [(2, .int (nI (i + 1))), (0, .ref (L 44)), (1, .ref sa)]) hx hb dX0_loads_42 hl (k := 2) rfl (nI_1 _) (by decide) rfl (fun ls hl => ?_)
            refine lv_goto (tgt := 2) hx hb dX0_loads_45 (by decide) ?_
            exact ih2 (i + 1) (by omega) (by omega) (by rw [hp, fstB_go (ld_go (z := (t, sz, sg)) (i := i) (by show i < sz; omega) (by omega) c_25) (by omega), show 7 - i - 1 = 7 - (i + 1) by omega]) (by omega) (nI (i + 1)) (rfl) x1 (by rw [ex1, exc2]; simp only [xs_at, xs_xs]; rfl) _ _ hI hS ls (lv_sub hl [1, 2, 0] rfl)
  exact lp2 (_ + 1) (0) (by decide) (Nat.zero_le _) (rfl) (Nat.lt_succ_self _) 0 (rfl) x ((xs_self _ _).symm) _ _ hI hS ls (lv_sub hl [1, 2, 0] rfl)
set_option maxHeartbeats 1000000 in
theorem k_X0_load {l : Launch} {D : va_G} {L : Nat → Nat} {A : Nat → Prop} (x : cst) (hsh : shOk2 x) (s0 : Int32) : Met l yX0_load (wsW_ yX0_load cX0_load 3 (some .int) [((0 : Nat), (25 : Nat), (26 : Nat), (62 : Nat))]) ({ frames := 4, cells := 0, slots := 0, locals := 84 } : Room) (va_Pc [.ref (L 44), .int s0] (pI D (cfC D L x) A)) (jQ D L (aC x (a_load (shC x) (x.1 0) s0)) A (some (.int (aR (a_load (shC x) (x.1 0) s0))))) 0 0 A := by
  refine met_W (by decide) rfl (Nat.le_of_ble_eq_true rfl) ?_
  intro p e s m below meth c ls hx hb hr hml hown hts hlocks hl hI hK hhh
  have F : CallFix p m c cX0_load 3 s _ lw_all RX0 := ⟨hx, hb, hml, hown, hts⟩
  have hl : lv_has ls 3 [(0, .ref (L 44)), (1, .int s0)] := hl
  have hS : va_S A s.heap s.heap [] := va_S.rf
  refine lv_aload_n hx hb dX0_load_0 rfl (lv_at hl 0 rfl) ?_
  refine lv_iload_n hx hb dX0_load_1 rfl (lv_at hl 1 rfl) ?_
  by_cases r_2 : inI s0 0 3 = 0
  · skip
    obtain ⟨x1, ex1⟩ : ∃ z, z = xr x 4 0 (nI 0) := ⟨_, rfl⟩
    refine x_catch (cf' := cfC D L x1) (by rw [ex1]; exact (k_X (n := 1) (As := [.int s0]) (rest := []) F (k_X0_rowAt_t x s0 r_2) ⟨rfl, rfl⟩ ⟨Nat.le_of_ble_eq_true rfl, Nat.le_of_ble_eq_true rfl⟩ q878 q880 qs24 q91 q881 (by decide +kernel) hI hK (hw.recv hI hK (cf_main) rfl) rfl hl.1 rfl (Nat.le_of_ble_eq_true rfl) dX0_load_2 ⟨Nat.le_of_ble_eq_true rfl, Nat.le_of_ble_eq_true rfl⟩)) hS hown (hts _ q123) hhh (by decide) (by decide) (by decide) hK (ci := 1) rfl rfl (cf_refusal) (fun H1 locs1 hI hS => ?_)
    have hf_2 : x1.2.1 4 0 = nI 0 := by rw [ex1]; exact xr_at _ 4 0 _
    refine lv_astore_n (lv' := [(2, .ref (L 45)), (0, .ref (L 44)), (1, .int s0)]) hx hb dX0_load_26 rfl hl (by decide) rfl (fun ls hl => ?_)
    refine lv_aload_n hx hb dX0_load_27 rfl (lv_at hl 1 rfl) ?_
    refine lv_aload_n hx hb dX0_load_28 rfl (lv_at hl 0 rfl) ?_
    refine r_getN (C := RX1) (T := TX1) (N := 7) hx hb hts in_X1 hown hK hI (cf_refusal) rfl 6 (by decide) (nf_0 hK) (fun _ h => h) rfl dX0_load_29 ?_
    rw [hf_2]
    refine c_m (k_V (As := [.int (nI 0)]) (rest := []) F (k_X0_finding x1 0 (by decide)) (cwV 1 hts (lw_V q457 q459 qs2 q91 q460) rfl rfl rfl (by decide +kernel) ⟨Nat.le_of_ble_eq_true rfl, Nat.le_of_ble_eq_true rfl⟩) hI hK (hw.recv hI hK (cf_main) rfl) rfl hl.1 rfl (Nat.le_of_ble_eq_true rfl) dX0_load_32 ⟨Nat.le_of_ble_eq_true rfl, Nat.le_of_ble_eq_true rfl⟩) hS (fun H1 locs1 hI hS => ?_)
    obtain ⟨x3, ex3⟩ : ∃ z, z = (fnd x1 0) := ⟨_, rfl⟩
    rw [← ex3] at hI
    exact W.iret hx hb hr (fun t ht _ => ⟨rI (by first | (rw [a_load, shq_0 r_2]; rfl) | (rw [a_load, shq_n hs (shC_n hq)]; rfl)), ⟨x3, (by first | (rw [a_load, shq_0 r_2, ex3]; rw [ex1]; exact jk_fr _ _ _) | (rw [a_load, shq_n hs (shC_n hq), ex3, ex1]; exact jk_fr _ _ _)), by rw [ht]; exact hI⟩, hS.F ht⟩) hS.2.2 dX0_load_35
  · skip
    obtain ⟨sn, hs, es0⟩ := inI_to (b := 3) rfl (by decide) r_2
    have hs : sn < 4 := by omega
    subst es0
    rcases hq : x.2.2.2 sn with _ | ⟨sa, t, sz, sg⟩
    · skip
      refine c_m (k_V (As := [.int (nI sn)]) (rest := []) F (k_X0_rowAt_n x sn hs hq) (cwV 1 hts (lw_V q878 q880 qs24 q91 q881) rfl rfl rfl (by decide +kernel) ⟨Nat.le_of_ble_eq_true rfl, Nat.le_of_ble_eq_true rfl⟩) hI hK (hw.recv hI hK (cf_main) rfl) rfl hl.1 rfl (Nat.le_of_ble_eq_true rfl) dX0_load_2 ⟨Nat.le_of_ble_eq_true rfl, Nat.le_of_ble_eq_true rfl⟩) hS (fun H1 locs1 hI hS => ?_)
      refine lv_astore_nN (lv' := [(2, .null), (0, .ref (L 44)), (1, .int (nI sn))]) hx hb dX0_load_5 rfl hl (by decide) rfl (fun ls hl => ?_)
      refine lv_aload_n hx hb dX0_load_6 rfl (lv_at hl 1 rfl) ?_
      refine lv_aload_nN hx hb dX0_load_7 rfl (lv_at hl 0 rfl) ?_
      refine lv_ifnullN (tgt := 15) hx hb dX0_load_8 (by decide) ?_
      refine lv_iconst (v := 0) hx hb dX0_load_15 (by decide) ?_
      refine lv_iconst (v := 5) hx hb dX0_load_16 (by decide) ?_
      obtain ⟨x4, ex4⟩ : ∃ z, z = xr x 4 0 (nI 5) := ⟨_, rfl⟩
      refine x_catch (cf' := cfC D L x4) (by rw [ex4]; exact (k_X (n := 2) (As := [.int 0, .int 5]) (rest := []) F (k_X0_need_thr x 0 5 (rfl)) ⟨rfl, rfl⟩ ⟨Nat.le_of_ble_eq_true rfl, Nat.le_of_ble_eq_true rfl⟩ q885 q887 qs25 q91 q888 (by decide +kernel) hI hK (hw.recv hI hK (cf_main) rfl) rfl hl.1 rfl (Nat.le_of_ble_eq_true rfl) dX0_load_17 ⟨Nat.le_of_ble_eq_true rfl, Nat.le_of_ble_eq_true rfl⟩)) hS hown (hts _ q123) hhh (by decide) (by decide) (by decide) hK (ci := 1) rfl rfl (cf_refusal) (fun H1 locs1 hI hS => ?_)
      have hf_5 : x4.2.1 4 0 = nI 5 := by rw [ex4]; exact xr_at _ 4 0 _
      refine lv_astore_n (lv' := [(2, .ref (L 45)), (0, .ref (L 44)), (1, .int (nI sn))]) hx hb dX0_load_26 rfl hl (by decide) rfl (fun ls hl => ?_)
      refine lv_aload_n hx hb dX0_load_27 rfl (lv_at hl 1 rfl) ?_
      refine lv_aload_n hx hb dX0_load_28 rfl (lv_at hl 0 rfl) ?_
      refine r_getN (C := RX1) (T := TX1) (N := 7) hx hb hts in_X1 hown hK hI (cf_refusal) rfl 6 (by decide) (nf_0 hK) (fun _ h => h) rfl dX0_load_29 ?_
      rw [hf_5]
      refine c_m (k_V (As := [.int (nI 5)]) (rest := []) F (k_X0_finding x4 5 (by decide)) (cwV 1 hts (lw_V q457 q459 qs2 q91 q460) rfl rfl rfl (by decide +kernel) ⟨Nat.le_of_ble_eq_true rfl, Nat.le_of_ble_eq_true rfl⟩) hI hK (hw.recv hI hK (cf_main) rfl) rfl hl.1 rfl (Nat.le_of_ble_eq_true rfl) dX0_load_32 ⟨Nat.le_of_ble_eq_true rfl, Nat.le_of_ble_eq_true rfl⟩) hS (fun H1 locs1 hI hS => ?_)
      obtain ⟨x6, ex6⟩ : ∃ z, z = (fnd x4 5) := ⟨_, rfl⟩
      rw [← ex6] at hI
      exact W.iret hx hb hr (fun t ht _ => ⟨rI (by first | (rw [a_load, shq_0 r_2]; rfl) | (rw [a_load, shq_n hs (shC_n hq)]; rfl)), ⟨x6, (by first | (rw [a_load, shq_0 r_2, ex6]; rw [ex4]; exact jk_fr _ _ _) | (rw [a_load, shq_n hs (shC_n hq), ex6, ex4]; exact jk_fr _ _ _)), by rw [ht]; exact hI⟩, hS.F ht⟩) hS.2.2 dX0_load_35
    · skip
      obtain ⟨hk3, hn, hsg⟩ := hsh sn hs _ _ _ _ hq
      refine c_m (k_V (As := [.int (nI sn)]) (rest := []) F (k_X0_rowAt_r x sn hs sa t sz sg hq) (cwV 1 hts (lw_V q878 q880 qs24 q91 q881) rfl rfl rfl (by decide +kernel) ⟨Nat.le_of_ble_eq_true rfl, Nat.le_of_ble_eq_true rfl⟩) hI hK (hw.recv hI hK (cf_main) rfl) rfl hl.1 rfl (Nat.le_of_ble_eq_true rfl) dX0_load_2 ⟨Nat.le_of_ble_eq_true rfl, Nat.le_of_ble_eq_true rfl⟩) hS (fun H1 locs1 hI hS => ?_)
      refine lv_astore_n (lv' := [(2, .ref sa), (0, .ref (L 44)), (1, .int (nI sn))]) hx hb dX0_load_5 rfl hl (by decide) rfl (fun ls hl => ?_)
      refine lv_aload_n hx hb dX0_load_6 rfl (lv_at hl 1 rfl) ?_
      refine lv_aload_n hx hb dX0_load_7 rfl (lv_at hl 0 rfl) ?_
      refine lv_ifnull hx hb dX0_load_8 ?_
      refine lv_iconst (v := 1) hx hb dX0_load_11 (by decide) ?_
      refine lv_goto (tgt := 16) hx hb dX0_load_12 (by decide) ?_
      refine lv_iconst (v := 5) hx hb dX0_load_16 (by decide) ?_
      refine c_m (k_V (As := [.int 1, .int 5]) (rest := []) F (k_X0_need_ok x 1 5 (by decide)) (cwV 2 hts (lw_V q885 q887 qs25 q91 q888) rfl rfl rfl (by decide +kernel) ⟨Nat.le_of_ble_eq_true rfl, Nat.le_of_ble_eq_true rfl⟩) hI hK (hw.recv hI hK (cf_main) rfl) rfl hl.1 rfl (Nat.le_of_ble_eq_true rfl) dX0_load_17 ⟨Nat.le_of_ble_eq_true rfl, Nat.le_of_ble_eq_true rfl⟩) hS (fun H1 locs1 hI hS => ?_)
      refine lv_aload_n hx hb dX0_load_20 rfl (lv_at hl 1 rfl) ?_
      refine lv_aload_n hx hb dX0_load_21 rfl (lv_at hl 0 rfl) ?_
      refine c_m (k_V (As := [.ref sa]) (rest := []) F (k_X0_loads x sn sa t sz sg hs (hq) hk3 hn) (cwV 1 hts (lw_V q1126 q1128 qs44 q91 q1129) rfl rfl rfl (by decide +kernel) ⟨Nat.le_of_ble_eq_true rfl, Nat.le_of_ble_eq_true rfl⟩) hI hK (hw.recv hI hK (cf_main) rfl) rfl hl.1 rfl (Nat.le_of_ble_eq_true rfl) dX0_load_22 ⟨Nat.le_of_ble_eq_true rfl, Nat.le_of_ble_eq_true rfl⟩) hS (fun H1 locs1 hI hS => ?_)
      obtain ⟨x7, ex7⟩ : ∃ z, z = xs x 0 (ldW (t, sz, sg) (x.1 0) (ldN (t, sz, sg))) := ⟨_, rfl⟩
      rw [← ex7] at hI
      exact W.iret hx hb hr (fun t ht _ => ⟨rI (by rw [a_load, shq_s hs (shC_s hq)]; rfl), ⟨x7, (by rw [a_load, shq_s hs (shC_s hq)]; refine jk_eq ?_; rw [ex7]; rfl), by rw [ht]; exact hI⟩, hS.F ht⟩) hS.2.2 dX0_load_25
set_option maxHeartbeats 1000000 in
theorem k_X0_judge {l : Launch} {D : va_G} {L : Nat → Nat} {A : Nat → Prop} (x : cst) (hO : wOk (x.1 0)) (hsh : shOk2 x) (s0 : Int32) : Met l yX0_judge (wsW_ yX0_judge cX0_judge 4 (some .int) [((0 : Nat), (78 : Nat), (79 : Nat), (62 : Nat))]) ({ frames := 3, cells := 0, slots := 0, locals := 64 } : Room) (va_Pc [.ref (L 44), .int s0] (pI D (cfC D L x) A)) (jQ D L (aC x (a_judge (shC x) (x.1 0) s0)) A (some (.int (aR (a_judge (shC x) (x.1 0) s0))))) 0 0 A := by
  refine met_W (by decide) rfl (Nat.le_of_ble_eq_true rfl) ?_
  intro p e s m below meth c ls hx hb hr hml hown hts hlocks hl hI hK hhh
  have F : CallFix p m c cX0_judge 4 s _ lw_all RX0 := ⟨hx, hb, hml, hown, hts⟩
  have hl : lv_has ls 4 [(0, .ref (L 44)), (1, .int s0)] := hl
  have hS : va_S A s.heap s.heap [] := va_S.rf
  obtain ⟨nn, hgn, h8⟩ : ∃ n, x.1 0 1 0 = nI n ∧ n ≤ 8 := ⟨_, hO.n⟩
  refine lv_aload_n hx hb dX0_judge_0 rfl (lv_at hl 0 rfl) ?_
  refine lv_iload_n hx hb dX0_judge_1 rfl (lv_at hl 1 rfl) ?_
  by_cases r_2 : inI s0 0 3 = 0
  · skip
    obtain ⟨x1, ex1⟩ : ∃ z, z = xr x 4 0 (nI 0) := ⟨_, rfl⟩
    refine x_catch (cf' := cfC D L x1) (by rw [ex1]; exact (k_X (n := 1) (As := [.int s0]) (rest := []) F (k_X0_rowAt_t x s0 r_2) ⟨rfl, rfl⟩ ⟨Nat.le_of_ble_eq_true rfl, Nat.le_of_ble_eq_true rfl⟩ q878 q880 qs24 q91 q881 (by decide +kernel) hI hK (hw.recv hI hK (cf_main) rfl) rfl hl.1 rfl (Nat.le_of_ble_eq_true rfl) dX0_judge_2 ⟨Nat.le_of_ble_eq_true rfl, Nat.le_of_ble_eq_true rfl⟩)) hS hown (hts _ q123) hhh (by decide) (by decide) (by decide) hK (ci := 1) rfl rfl (cf_refusal) (fun H1 locs1 hI hS => ?_)
    have hf_2 : x1.2.1 4 0 = nI 0 := by rw [ex1]; exact xr_at _ 4 0 _
    refine lv_astore_n (lv' := [(2, .ref (L 45)), (0, .ref (L 44)), (1, .int s0)]) hx hb dX0_judge_79 rfl hl (by decide) rfl (fun ls hl => ?_)
    refine lv_aload_n hx hb dX0_judge_80 rfl (lv_at hl 1 rfl) ?_
    refine lv_aload_n hx hb dX0_judge_81 rfl (lv_at hl 0 rfl) ?_
    refine r_getN (C := RX1) (T := TX1) (N := 7) hx hb hts in_X1 hown hK hI (cf_refusal) rfl 6 (by decide) (nf_0 hK) (fun _ h => h) rfl dX0_judge_82 ?_
    rw [hf_2]
    refine c_m (k_V (As := [.int (nI 0)]) (rest := []) F (k_X0_finding x1 0 (by decide)) (cwV 1 hts (lw_V q457 q459 qs2 q91 q460) rfl rfl rfl (by decide +kernel) ⟨Nat.le_of_ble_eq_true rfl, Nat.le_of_ble_eq_true rfl⟩) hI hK (hw.recv hI hK (cf_main) rfl) rfl hl.1 rfl (Nat.le_of_ble_eq_true rfl) dX0_judge_85 ⟨Nat.le_of_ble_eq_true rfl, Nat.le_of_ble_eq_true rfl⟩) hS (fun H1 locs1 hI hS => ?_)
    obtain ⟨x3, ex3⟩ : ∃ z, z = (fnd x1 0) := ⟨_, rfl⟩
    rw [← ex3] at hI
    exact W.iret hx hb hr (fun t ht _ => ⟨rI (by first | (rw [a_judge, shq_0 r_2]; rfl) | (rw [a_judge, shq_n hs (shC_n hq)]; rfl)), ⟨x3, (by first | (rw [a_judge, shq_0 r_2, ex3]; rw [ex1]; exact jk_fr _ _ _) | (rw [a_judge, shq_n hs (shC_n hq), ex3, ex1]; exact jk_fr _ _ _)), by rw [ht]; exact hI⟩, hS.F ht⟩) hS.2.2 dX0_judge_88
  · skip
    obtain ⟨sn, hs, es0⟩ := inI_to (b := 3) rfl (by decide) r_2
    have hs : sn < 4 := by omega
    subst es0
    rcases hq : x.2.2.2 sn with _ | ⟨sa, t, sz, sg⟩
    · skip
      refine c_m (k_V (As := [.int (nI sn)]) (rest := []) F (k_X0_rowAt_n x sn hs hq) (cwV 1 hts (lw_V q878 q880 qs24 q91 q881) rfl rfl rfl (by decide +kernel) ⟨Nat.le_of_ble_eq_true rfl, Nat.le_of_ble_eq_true rfl⟩) hI hK (hw.recv hI hK (cf_main) rfl) rfl hl.1 rfl (Nat.le_of_ble_eq_true rfl) dX0_judge_2 ⟨Nat.le_of_ble_eq_true rfl, Nat.le_of_ble_eq_true rfl⟩) hS (fun H1 locs1 hI hS => ?_)
      refine lv_astore_nN (lv' := [(2, .null), (0, .ref (L 44)), (1, .int (nI sn))]) hx hb dX0_judge_5 rfl hl (by decide) rfl (fun ls hl => ?_)
      refine lv_aload_n hx hb dX0_judge_6 rfl (lv_at hl 1 rfl) ?_
      refine lv_aload_nN hx hb dX0_judge_7 rfl (lv_at hl 0 rfl) ?_
      refine lv_ifnullN (tgt := 15) hx hb dX0_judge_8 (by decide) ?_
      refine lv_iconst (v := 0) hx hb dX0_judge_15 (by decide) ?_
      refine lv_iconst (v := 5) hx hb dX0_judge_16 (by decide) ?_
      obtain ⟨x4, ex4⟩ : ∃ z, z = xr x 4 0 (nI 5) := ⟨_, rfl⟩
      refine x_catch (cf' := cfC D L x4) (by rw [ex4]; exact (k_X (n := 2) (As := [.int 0, .int 5]) (rest := []) F (k_X0_need_thr x 0 5 (rfl)) ⟨rfl, rfl⟩ ⟨Nat.le_of_ble_eq_true rfl, Nat.le_of_ble_eq_true rfl⟩ q885 q887 qs25 q91 q888 (by decide +kernel) hI hK (hw.recv hI hK (cf_main) rfl) rfl hl.1 rfl (Nat.le_of_ble_eq_true rfl) dX0_judge_17 ⟨Nat.le_of_ble_eq_true rfl, Nat.le_of_ble_eq_true rfl⟩)) hS hown (hts _ q123) hhh (by decide) (by decide) (by decide) hK (ci := 1) rfl rfl (cf_refusal) (fun H1 locs1 hI hS => ?_)
      have hf_5 : x4.2.1 4 0 = nI 5 := by rw [ex4]; exact xr_at _ 4 0 _
      refine lv_astore_n (lv' := [(2, .ref (L 45)), (0, .ref (L 44)), (1, .int (nI sn))]) hx hb dX0_judge_79 rfl hl (by decide) rfl (fun ls hl => ?_)
      refine lv_aload_n hx hb dX0_judge_80 rfl (lv_at hl 1 rfl) ?_
      refine lv_aload_n hx hb dX0_judge_81 rfl (lv_at hl 0 rfl) ?_
      refine r_getN (C := RX1) (T := TX1) (N := 7) hx hb hts in_X1 hown hK hI (cf_refusal) rfl 6 (by decide) (nf_0 hK) (fun _ h => h) rfl dX0_judge_82 ?_
      rw [hf_5]
      refine c_m (k_V (As := [.int (nI 5)]) (rest := []) F (k_X0_finding x4 5 (by decide)) (cwV 1 hts (lw_V q457 q459 qs2 q91 q460) rfl rfl rfl (by decide +kernel) ⟨Nat.le_of_ble_eq_true rfl, Nat.le_of_ble_eq_true rfl⟩) hI hK (hw.recv hI hK (cf_main) rfl) rfl hl.1 rfl (Nat.le_of_ble_eq_true rfl) dX0_judge_85 ⟨Nat.le_of_ble_eq_true rfl, Nat.le_of_ble_eq_true rfl⟩) hS (fun H1 locs1 hI hS => ?_)
      obtain ⟨x6, ex6⟩ : ∃ z, z = (fnd x4 5) := ⟨_, rfl⟩
      rw [← ex6] at hI
      exact W.iret hx hb hr (fun t ht _ => ⟨rI (by first | (rw [a_judge, shq_0 r_2]; rfl) | (rw [a_judge, shq_n hs (shC_n hq)]; rfl)), ⟨x6, (by first | (rw [a_judge, shq_0 r_2, ex6]; rw [ex4]; exact jk_fr _ _ _) | (rw [a_judge, shq_n hs (shC_n hq), ex6, ex4]; exact jk_fr _ _ _)), by rw [ht]; exact hI⟩, hS.F ht⟩) hS.2.2 dX0_judge_88
    · skip
      obtain ⟨hk3, hn, hsg⟩ := hsh sn hs _ _ _ _ hq
      refine c_m (k_V (As := [.int (nI sn)]) (rest := []) F (k_X0_rowAt_r x sn hs sa t sz sg hq) (cwV 1 hts (lw_V q878 q880 qs24 q91 q881) rfl rfl rfl (by decide +kernel) ⟨Nat.le_of_ble_eq_true rfl, Nat.le_of_ble_eq_true rfl⟩) hI hK (hw.recv hI hK (cf_main) rfl) rfl hl.1 rfl (Nat.le_of_ble_eq_true rfl) dX0_judge_2 ⟨Nat.le_of_ble_eq_true rfl, Nat.le_of_ble_eq_true rfl⟩) hS (fun H1 locs1 hI hS => ?_)
      refine lv_astore_n (lv' := [(2, .ref sa), (0, .ref (L 44)), (1, .int (nI sn))]) hx hb dX0_judge_5 rfl hl (by decide) rfl (fun ls hl => ?_)
      refine lv_aload_n hx hb dX0_judge_6 rfl (lv_at hl 1 rfl) ?_
      refine lv_aload_n hx hb dX0_judge_7 rfl (lv_at hl 0 rfl) ?_
      refine lv_ifnull hx hb dX0_judge_8 ?_
      refine lv_iconst (v := 1) hx hb dX0_judge_11 (by decide) ?_
      refine lv_goto (tgt := 16) hx hb dX0_judge_12 (by decide) ?_
      refine lv_iconst (v := 5) hx hb dX0_judge_16 (by decide) ?_
      refine c_m (k_V (As := [.int 1, .int 5]) (rest := []) F (k_X0_need_ok x 1 5 (by decide)) (cwV 2 hts (lw_V q885 q887 qs25 q91 q888) rfl rfl rfl (by decide +kernel) ⟨Nat.le_of_ble_eq_true rfl, Nat.le_of_ble_eq_true rfl⟩) hI hK (hw.recv hI hK (cf_main) rfl) rfl hl.1 rfl (Nat.le_of_ble_eq_true rfl) dX0_judge_17 ⟨Nat.le_of_ble_eq_true rfl, Nat.le_of_ble_eq_true rfl⟩) hS (fun H1 locs1 hI hS => ?_)
      refine lv_iconst (v := 0) hx hb dX0_judge_20 (by decide) ?_
      refine lv_istore_n (lv' := [(3, .int 0), (2, .ref sa), (0, .ref (L 44)), (1, .int (nI sn))]) hx hb dX0_judge_21 rfl hl (by decide) rfl (fun ls hl => ?_)
      have lp22 : ∀ (fuel : Nat) (i : Nat), (i ≤ sz) → (fstB (juP (x.1 0) (t, sz, sg)) 41 0 = fstB (juP (x.1 0) (t, sz, sg)) (41 - i) i) → sz - i < fuel → ∀ (v3 : Int32), v3 = nI i → ∀ (xc22 : cst), xc22 = x → ∀ (H : Heap) (locs : List Loc), hw D (cfC D L xc22) A H → va_S A s.heap H locs → ∀ (ls : Array Slot), lv_has ls 4 [(0, .ref (L 44)), (1, .int (nI sn)), (2, .ref sa), (3, .int v3)] → W p l e ({ frames := 3, cells := 0, slots := 0, locals := 64 } : Room) s m ([.ref (L 44), .int (nI sn)] : List Value).toArray below meth c H locs 0 0 (MQ below (jQ D L (aC x (a_judge (shC x) (x.1 0) (nI sn))) A (some (.int (aR (a_judge (shC x) (x.1 0) (nI sn)))))) ([.ref (L 44), .int (nI sn)] : List Value).toArray s 0 0 A) (F0 m 22 ls []) := by
        intro fuel
        induction fuel with
        | zero => intro i hi hp hf; exact absurd hf (Nat.not_lt_zero _)
        | succ fuel ih22 =>
          intro i hi hp hf22 v3 e3  xc22 exc22 H locs hI hS ls hl
          subst e3
          have hq_xc22 : xc22.2.2.2 sn = some (sa, t, sz, sg) := by rw [exc22]; exact hq
          refine lv_iload_n hx hb dX0_judge_22 rfl (lv_at hl 3 rfl) ?_
          refine lv_aload_n hx hb dX0_judge_23 rfl (lv_at hl 2 rfl) ?_
          refine c_r (k_SI (As := [.ref sa]) (rest := [.int (nI i)]) F (k_X0_length xc22 sn sa t sz sg hs (hq_xc22) hk3 hn) (va_cwS 1 hts (lw_S q897 q898 q91 q899) rfl rfl rfl (by decide +kernel) ⟨Nat.le_of_ble_eq_true rfl, Nat.le_of_ble_eq_true rfl⟩) hI hK rfl hl.1 rfl (Nat.le_of_ble_eq_true rfl) dX0_judge_24 ⟨Nat.le_of_ble_eq_true rfl, Nat.le_of_ble_eq_true rfl⟩) ?_
          refine lv_icmp_ge (tgt := 63) hx hb dX0_judge_27 (by decide) (fun c_27 => ?_) (fun c_27 => ?_)
          · skip
            have c_27 : sz ≤ i := (nle (a := sz) (b := i) (rfl) (rfl) (by omega) (by omega)).mp c_27
            have hE : juN (x.1 0) (t, sz, sg) = i := by rw [juN, hp]; exact fstB_stop (ju_st (by first | (left; show sz ≤ i; omega) | (right; left; rw [exc22] at c_35; exact c_35) | (right; right; rw [exc22] at c_54; exact c_54))) (by omega)
            refine lv_iload_n hx hb dX0_judge_63 rfl (lv_at hl 3 rfl) ?_
            refine lv_aload_n hx hb dX0_judge_64 rfl (lv_at hl 2 rfl) ?_
            refine c_r (k_SI (As := [.ref sa]) (rest := [.int (nI i)]) F (k_X0_length xc22 sn sa t sz sg hs (hq_xc22) hk3 hn) (va_cwS 1 hts (lw_S q897 q898 q91 q899) rfl rfl rfl (by decide +kernel) ⟨Nat.le_of_ble_eq_true rfl, Nat.le_of_ble_eq_true rfl⟩) hI hK rfl hl.1 rfl (Nat.le_of_ble_eq_true rfl) dX0_judge_65 ⟨Nat.le_of_ble_eq_true rfl, Nat.le_of_ble_eq_true rfl⟩) ?_
            refine lv_icmp_ne (tgt := 75) hx hb dX0_judge_68 (by decide) (fun c_68 => ?_) (fun c_68 => ?_)
            · skip
              have c_68 : ¬ i = sz := fun z => c_68 ((neq (a := i) (b := sz) (rfl) (rfl) (by omega) (by omega)).mpr z)
              refine lv_iconst (v := 1) hx hb dX0_judge_75 (by decide) ?_
              refine lv_iload_n hx hb dX0_judge_76 rfl (lv_at hl 3 rfl) ?_
              refine lv_iadd hx hb dX0_judge_77 ?_
              exact W.iret hx hb hr (fun t ht _ => ⟨rI (by rw [a_judge, shq_s hs (shC_s hq)]; simp only [hE]; first | (rw [if_pos c_68]; rfl) | (rw [if_neg c_68]; show 1 + nI i = nI (1 + i); rw [show (1 : Int32) = nI 1 from rfl, nI_add])), ⟨xc22, (by rw [a_judge, shq_s hs (shC_s hq)]; simp only [aC, xs_self]; refine jk_eq ?_; rw [exc22]), by rw [ht]; exact hI⟩, hS.F ht⟩) hS.2.2 dX0_judge_78
            · skip
              have c_68 : i = sz := (neq (a := i) (b := sz) (rfl) (rfl) (by omega) (by omega)).mp c_68
              refine lv_iconst (v := 0) hx hb dX0_judge_71 (by decide) ?_
              refine lv_goto (tgt := 78) hx hb dX0_judge_72 (by decide) ?_
              exact W.iret hx hb hr (fun t ht _ => ⟨rI (by rw [a_judge, shq_s hs (shC_s hq)]; simp only [hE]; first | (rw [if_pos c_68]; rfl) | (rw [if_neg c_68]; show 1 + nI i = nI (1 + i); rw [show (1 : Int32) = nI 1 from rfl, nI_add])), ⟨xc22, (by rw [a_judge, shq_s hs (shC_s hq)]; simp only [aC, xs_self]; refine jk_eq ?_; rw [exc22]), by rw [ht]; exact hI⟩, hS.F ht⟩) hS.2.2 dX0_judge_78
          · skip
            have c_27 : ¬ sz ≤ i := fun z => c_27 ((nle (a := sz) (b := i) (rfl) (rfl) (by omega) (by omega)).mpr z)
            refine lv_aload_n hx hb dX0_judge_30 rfl (lv_at hl 0 rfl) ?_
            refine lv_iload_n hx hb dX0_judge_31 rfl (lv_at hl 3 rfl) ?_
            refine c_r (k_V (As := [.int (nI i)]) (rest := []) F (k_X0_isGlove xc22 (nI i)) (cwV 1 hts (lw_V q543 q545 qs5 q91 q546) rfl rfl rfl (by decide +kernel) ⟨Nat.le_of_ble_eq_true rfl, Nat.le_of_ble_eq_true rfl⟩) hI hK (hw.recv hI hK (cf_main) rfl) rfl hl.1 rfl (Nat.le_of_ble_eq_true rfl) dX0_judge_32 ⟨Nat.le_of_ble_eq_true rfl, Nat.le_of_ble_eq_true rfl⟩) ?_
            refine lv_if_eq (tgt := 63) hx hb dX0_judge_35 (by decide) (fun c_35 => ?_) (fun c_35 => ?_)
            · skip
              have hE : juN (x.1 0) (t, sz, sg) = i := by rw [juN, hp]; exact fstB_stop (ju_st (by first | (left; show sz ≤ i; omega) | (right; left; rw [exc22] at c_35; exact c_35) | (right; right; rw [exc22] at c_54; exact c_54))) (by omega)
              refine lv_iload_n hx hb dX0_judge_63 rfl (lv_at hl 3 rfl) ?_
              refine lv_aload_n hx hb dX0_judge_64 rfl (lv_at hl 2 rfl) ?_
              refine c_r (k_SI (As := [.ref sa]) (rest := [.int (nI i)]) F (k_X0_length xc22 sn sa t sz sg hs (hq_xc22) hk3 hn) (va_cwS 1 hts (lw_S q897 q898 q91 q899) rfl rfl rfl (by decide +kernel) ⟨Nat.le_of_ble_eq_true rfl, Nat.le_of_ble_eq_true rfl⟩) hI hK rfl hl.1 rfl (Nat.le_of_ble_eq_true rfl) dX0_judge_65 ⟨Nat.le_of_ble_eq_true rfl, Nat.le_of_ble_eq_true rfl⟩) ?_
              refine lv_icmp_ne (tgt := 75) hx hb dX0_judge_68 (by decide) (fun c_68 => ?_) (fun c_68 => ?_)
              · skip
                have c_68 : ¬ i = sz := fun z => c_68 ((neq (a := i) (b := sz) (rfl) (rfl) (by omega) (by omega)).mpr z)
                refine lv_iconst (v := 1) hx hb dX0_judge_75 (by decide) ?_
                refine lv_iload_n hx hb dX0_judge_76 rfl (lv_at hl 3 rfl) ?_
                refine lv_iadd hx hb dX0_judge_77 ?_
                exact W.iret hx hb hr (fun t ht _ => ⟨rI (by rw [a_judge, shq_s hs (shC_s hq)]; simp only [hE]; first | (rw [if_pos c_68]; rfl) | (rw [if_neg c_68]; show 1 + nI i = nI (1 + i); rw [show (1 : Int32) = nI 1 from rfl, nI_add])), ⟨xc22, (by rw [a_judge, shq_s hs (shC_s hq)]; simp only [aC, xs_self]; refine jk_eq ?_; rw [exc22]), by rw [ht]; exact hI⟩, hS.F ht⟩) hS.2.2 dX0_judge_78
              · skip
                have c_68 : i = sz := (neq (a := i) (b := sz) (rfl) (rfl) (by omega) (by omega)).mp c_68
                refine lv_iconst (v := 0) hx hb dX0_judge_71 (by decide) ?_
                refine lv_goto (tgt := 78) hx hb dX0_judge_72 (by decide) ?_
                exact W.iret hx hb hr (fun t ht _ => ⟨rI (by rw [a_judge, shq_s hs (shC_s hq)]; simp only [hE]; first | (rw [if_pos c_68]; rfl) | (rw [if_neg c_68]; show 1 + nI i = nI (1 + i); rw [show (1 : Int32) = nI 1 from rfl, nI_add])), ⟨xc22, (by rw [a_judge, shq_s hs (shC_s hq)]; simp only [aC, xs_self]; refine jk_eq ?_; rw [exc22]), by rw [ht]; exact hI⟩, hS.F ht⟩) hS.2.2 dX0_judge_78
            · skip
              have hi8 : i < 8 := by rw [exc22] at c_35; exact gl_8 hgn h8 (by omega) c_35
              refine lv_aload_n hx hb dX0_judge_38 rfl (lv_at hl 2 rfl) ?_
              refine lv_iload_n hx hb dX0_judge_39 rfl (lv_at hl 3 rfl) ?_
              refine c_r (k_SI (As := [.ref sa, .int (nI i)]) (rest := []) F (k_X0_number xc22 sn sa t sz sg hs (hq_xc22) hk3 hn i (by omega)) (va_cwS 2 hts (lw_S q903 q904 q91 q905) rfl rfl rfl (by decide +kernel) ⟨Nat.le_of_ble_eq_true rfl, Nat.le_of_ble_eq_true rfl⟩) hI hK rfl hl.1 rfl (Nat.le_of_ble_eq_true rfl) dX0_judge_40 ⟨Nat.le_of_ble_eq_true rfl, Nat.le_of_ble_eq_true rfl⟩) ?_
              refine lv_aload_n hx hb dX0_judge_43 rfl (lv_at hl 0 rfl) ?_
              refine r_get (C := RX0) (T := TX0) (N := 11) hx hb hts in_X0 hown hK hI (cf_main) rfl 3 (by decide) (hts _ q401) (fun _ h => h) rfl dX0_judge_44 ?_
              refine r_getN (C := RX4) (T := TX4) (N := 7) hx hb hts in_X4 hown hK hI (cf_W (w := 0) (by decide)) rfl 2 (by decide) (nf_7 hK) (fun _ h => h) rfl dX0_judge_47 ?_
              refine lv_iconst (v := 5) hx hb dX0_judge_50 (by decide) ?_
              refine n_aaldI (f := fun r => L (11 * 0 + 3 + r)) (k := 5) hx hb hK hI (cf_glove (w := 0) (by decide)) (rfl) (by decide) (by decide) dX0_judge_51 ?_
              refine lv_iload_n hx hb dX0_judge_52 rfl (lv_at hl 3 rfl) ?_
              refine n_iald (k := i) hx hb hK hI (cf_row (w := 0) (r := 5) (by decide) (by decide)) (rfl) (by omega) (by decide) dX0_judge_53 ?_
              refine lv_icmp_ne (tgt := 63) hx hb dX0_judge_54 (by decide) (fun c_54 => ?_) (fun c_54 => ?_)
              · skip
                have hE : juN (x.1 0) (t, sz, sg) = i := by rw [juN, hp]; exact fstB_stop (ju_st (by first | (left; show sz ≤ i; omega) | (right; left; rw [exc22] at c_35; exact c_35) | (right; right; rw [exc22] at c_54; exact c_54))) (by omega)
                refine lv_iload_n hx hb dX0_judge_63 rfl (lv_at hl 3 rfl) ?_
                refine lv_aload_n hx hb dX0_judge_64 rfl (lv_at hl 2 rfl) ?_
                refine c_r (k_SI (As := [.ref sa]) (rest := [.int (nI i)]) F (k_X0_length xc22 sn sa t sz sg hs (hq_xc22) hk3 hn) (va_cwS 1 hts (lw_S q897 q898 q91 q899) rfl rfl rfl (by decide +kernel) ⟨Nat.le_of_ble_eq_true rfl, Nat.le_of_ble_eq_true rfl⟩) hI hK rfl hl.1 rfl (Nat.le_of_ble_eq_true rfl) dX0_judge_65 ⟨Nat.le_of_ble_eq_true rfl, Nat.le_of_ble_eq_true rfl⟩) ?_
                refine lv_icmp_ne (tgt := 75) hx hb dX0_judge_68 (by decide) (fun c_68 => ?_) (fun c_68 => ?_)
                · skip
                  have c_68 : ¬ i = sz := fun z => c_68 ((neq (a := i) (b := sz) (rfl) (rfl) (by omega) (by omega)).mpr z)
                  refine lv_iconst (v := 1) hx hb dX0_judge_75 (by decide) ?_
                  refine lv_iload_n hx hb dX0_judge_76 rfl (lv_at hl 3 rfl) ?_
                  refine lv_iadd hx hb dX0_judge_77 ?_
                  exact W.iret hx hb hr (fun t ht _ => ⟨rI (by rw [a_judge, shq_s hs (shC_s hq)]; simp only [hE]; first | (rw [if_pos c_68]; rfl) | (rw [if_neg c_68]; show 1 + nI i = nI (1 + i); rw [show (1 : Int32) = nI 1 from rfl, nI_add])), ⟨xc22, (by rw [a_judge, shq_s hs (shC_s hq)]; simp only [aC, xs_self]; refine jk_eq ?_; rw [exc22]), by rw [ht]; exact hI⟩, hS.F ht⟩) hS.2.2 dX0_judge_78
                · skip
                  have c_68 : i = sz := (neq (a := i) (b := sz) (rfl) (rfl) (by omega) (by omega)).mp c_68
                  refine lv_iconst (v := 0) hx hb dX0_judge_71 (by decide) ?_
                  refine lv_goto (tgt := 78) hx hb dX0_judge_72 (by decide) ?_
                  exact W.iret hx hb hr (fun t ht _ => ⟨rI (by rw [a_judge, shq_s hs (shC_s hq)]; simp only [hE]; first | (rw [if_pos c_68]; rfl) | (rw [if_neg c_68]; show 1 + nI i = nI (1 + i); rw [show (1 : Int32) = nI 1 from rfl, nI_add])), ⟨xc22, (by rw [a_judge, shq_s hs (shC_s hq)]; simp only [aC, xs_self]; refine jk_eq ?_; rw [exc22]), by rw [ht]; exact hI⟩, hS.F ht⟩) hS.2.2 dX0_judge_78
              · skip
                refine lv_iinc (v := (nI (i + 1))) (lv' := [(3, .int (nI (i + 1))), (0, .ref (L 44)), (1, .int (nI sn)), (2, .ref sa)]) hx hb dX0_judge_57 hl (k := 3) rfl (nI_1 _) (by decide) rfl (fun ls hl => ?_)
                refine lv_goto (tgt := 22) hx hb dX0_judge_60 (by decide) ?_
                exact ih22 (i + 1) (by omega) (by rw [exc22] at c_35 c_54; rw [hp, fstB_go (ju_go (by show i < sz; omega) c_35 c_54) (by omega), show 41 - i - 1 = 41 - (i + 1) by omega]) (by omega) (nI (i + 1)) (rfl) xc22 (exc22) _ _ hI hS ls (lv_sub hl [1, 2, 3, 0] rfl)
      exact lp22 (_ + 1) (0) (Nat.zero_le _) (rfl) (Nat.lt_succ_self _) 0 (rfl) x (rfl) _ _ hI hS ls (lv_sub hl [2, 3, 1, 0] rfl)
