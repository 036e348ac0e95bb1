/-! the constant's charAt: the JDK's own code -/
theorem key_b : ∀ k, k < 91 → keyL.getD k 0 < 128 := by decide +kernel
theorem key_at {k : Nat} (hk : k < 91) : (fun j => Value.int (([keyB].getD 0 []).getD j 0)) (nI k).toNatClampNeg = .int (nI (keyL.getD k 0)) := by
  rw [nI_clamp (by omega)]
  have h : ∀ k, k < 91 → ([keyB].getD 0 []).getD k 0 = nI (keyL.getD k 0) := by decide +kernel
  show Value.int _ = _
  rw [h k hk]
theorem key_c {k : Nat} (hk : k < 91) : ((nI (keyL.getD k 0) &&& 255).toUInt32 % 65536).toInt32 = nI (keyL.getD k 0) := by
  have h : ∀ v, v < 128 → ((nI v &&& 255).toUInt32 % 65536).toInt32 = nI v := by decide +kernel
  exact h _ (key_b k hk)
theorem nar_key (k : Nat) (hk : k < 91) : narrow .char (.int (nI (keyL.getD k 0))) = .int (nI (keyL.getD k 0)) := (pk_charN (by have := key_b k hk; omega)).1
theorem k_J7_checkIndex_r {l : Launch} (i n : Int32) (a : Nat) (h0 : ¬ i < 0) (h1 : i < n) : Met l yJ7_checkIndex (ws_ yJ7_checkIndex cJ7_checkIndex 3 (some .int)) ({ frames := 0, cells := 0, slots := 0, locals := 0 } : Room) (va_Pc [.int i, .int n, .ref a] pT) (rQ (.int i)) 0 0 nof := by
  refine met_T (by decide) rfl (Nat.le_of_ble_eq_true rfl) ?_
  intro p e s m below meth c ls hx hb hr hml hown hts hlocks hl
  have F : CallFix p m c cJ7_checkIndex 3 s _ lw_all RJ7 := ⟨hx, hb, hml, hown, hts⟩
  have hl : lv_has ls 3 [(0, .int i), (1, .int n), (2, .ref a)] := hl
  refine lv_iload_n hx hb dJ7_checkIndex_0 rfl (lv_at hl 0 rfl) ?_
  refine lv_if_lt (tgt := 9) hx hb dJ7_checkIndex_1 (by decide) (fun c_1 => ?_) (fun c_1 => ?_)
  · skip
    exact absurd c_1 h0
  · skip
    refine lv_iload_n hx hb dJ7_checkIndex_4 rfl (lv_at hl 0 rfl) ?_
    refine lv_iload_n hx hb dJ7_checkIndex_5 rfl (lv_at hl 1 rfl) ?_
    refine lv_icmp_lt (tgt := 16) hx hb dJ7_checkIndex_6 (by decide) (fun c_6 => ?_) (fun c_6 => ?_)
    · skip
      refine lv_iload_n hx hb dJ7_checkIndex_16 rfl (lv_at hl 0 rfl) ?_
      exact W.iret hx hb hr (fun t ht _ => ⟨rI (rfl), ht⟩) (fun q h => by cases h) dJ7_checkIndex_17
    · skip
      exact absurd h1 c_6
theorem k_J7_checkIndex_n {l : Launch} (i n : Int32) (h0 : ¬ i < 0) (h1 : i < n) : Met l yJ7_checkIndex (ws_ yJ7_checkIndex cJ7_checkIndex 3 (some .int)) ({ frames := 0, cells := 0, slots := 0, locals := 0 } : Room) (va_Pc [.int i, .int n, .null] pT) (rQ (.int i)) 0 0 nof := by
  refine met_T (by decide) rfl (Nat.le_of_ble_eq_true rfl) ?_
  intro p e s m below meth c ls hx hb hr hml hown hts hlocks hl
  have F : CallFix p m c cJ7_checkIndex 3 s _ lw_all RJ7 := ⟨hx, hb, hml, hown, hts⟩
  have hl : lv_has ls 3 [(0, .int i), (1, .int n), (2, .null)] := hl
  refine lv_iload_n hx hb dJ7_checkIndex_0 rfl (lv_at hl 0 rfl) ?_
  refine lv_if_lt (tgt := 9) hx hb dJ7_checkIndex_1 (by decide) (fun c_1 => ?_) (fun c_1 => ?_)
  · skip
    exact absurd c_1 h0
  · skip
    refine lv_iload_n hx hb dJ7_checkIndex_4 rfl (lv_at hl 0 rfl) ?_
    refine lv_iload_n hx hb dJ7_checkIndex_5 rfl (lv_at hl 1 rfl) ?_
    refine lv_icmp_lt (tgt := 16) hx hb dJ7_checkIndex_6 (by decide) (fun c_6 => ?_) (fun c_6 => ?_)
    · skip
      refine lv_iload_n hx hb dJ7_checkIndex_16 rfl (lv_at hl 0 rfl) ?_
      exact W.iret hx hb hr (fun t ht _ => ⟨rI (rfl), ht⟩) (fun q h => by cases h) dJ7_checkIndex_17
    · skip
      exact absurd h1 c_6
theorem k_J5_checkIndex_r {l : Launch} {D : va_G} {cf : cmap} {A : Nat → Prop} {σ : Nat × Nat × Value} (i n : Int32) (a : Nat) (hσ : σ.2.2 = .ref a) (h0 : ¬ i < 0) (h1 : i < n) : Met l yJ5_checkIndex (ws_ yJ5_checkIndex cJ5_checkIndex 2 none) ({ frames := 1, cells := 0, slots := 0, locals := 22 } : Room) (va_Pc [.int i, .int n] (pS D (cf) A σ)) (nQ D (cf) A none) 0 0 A := by
  refine met_S (by decide) rfl (Nat.le_of_ble_eq_true rfl) ?_
  intro p e s m below meth c ls hx hb hr hml hown hts hlocks hl hI hK hSS
  have F : CallFix p m c cJ5_checkIndex 2 s _ lw_all RJ5 := ⟨hx, hb, hml, hown, hts⟩
  have hl : lv_has ls 2 [(0, .int i), (1, .int n)] := hl
  have hS : va_S A s.heap s.heap [] := va_S.rf
  have hZ9 := hSS.2.2.2
  rw [hσ] at hZ9
  refine lv_iload_n hx hb dJ5_checkIndex_0 rfl (lv_at hl 0 rfl) ?_
  refine lv_iload_n hx hb dJ5_checkIndex_1 rfl (lv_at hl 1 rfl) ?_
  refine va_gets hx hb hZ9 hS hown (hts _ q989) (fun _ h => h) dJ5_checkIndex_2 ?_
  refine c_r (k_S (As := [.int i, .int n, .ref a]) (rest := []) F (k_J7_checkIndex_r i n a h0 h1) (va_cwS 3 hts (lw_S q991 q992 q113 q993) rfl rfl rfl (by decide +kernel) ⟨Nat.le_of_ble_eq_true rfl, Nat.le_of_ble_eq_true rfl⟩) rfl hl.1 rfl (Nat.le_of_ble_eq_true rfl) dJ5_checkIndex_5 ⟨Nat.le_of_ble_eq_true rfl, Nat.le_of_ble_eq_true rfl⟩) ?_
  refine lv_pop hx hb dJ5_checkIndex_8 rfl ?_
  exact W.vret hx hb hr (fun t ht _ => ⟨rfl, by rw [ht]; exact hw_eq hI (rfl), hS.F ht⟩) hS.2.2 dJ5_checkIndex_9
theorem k_J5_checkIndex_n {l : Launch} {D : va_G} {cf : cmap} {A : Nat → Prop} {σ : Nat × Nat × Value} (i n : Int32) (hσ : σ.2.2 = .null) (h0 : ¬ i < 0) (h1 : i < n) : Met l yJ5_checkIndex (ws_ yJ5_checkIndex cJ5_checkIndex 2 none) ({ frames := 1, cells := 0, slots := 0, locals := 22 } : Room) (va_Pc [.int i, .int n] (pS D (cf) A σ)) (nQ D (cf) A none) 0 0 A := by
  refine met_S (by decide) rfl (Nat.le_of_ble_eq_true rfl) ?_
  intro p e s m below meth c ls hx hb hr hml hown hts hlocks hl hI hK hSS
  have F : CallFix p m c cJ5_checkIndex 2 s _ lw_all RJ5 := ⟨hx, hb, hml, hown, hts⟩
  have hl : lv_has ls 2 [(0, .int i), (1, .int n)] := hl
  have hS : va_S A s.heap s.heap [] := va_S.rf
  have hZ9 := hSS.2.2.2
  rw [hσ] at hZ9
  refine lv_iload_n hx hb dJ5_checkIndex_0 rfl (lv_at hl 0 rfl) ?_
  refine lv_iload_n hx hb dJ5_checkIndex_1 rfl (lv_at hl 1 rfl) ?_
  refine va_gets hx hb hZ9 hS hown (hts _ q989) (fun _ h => h) dJ5_checkIndex_2 ?_
  refine c_r (k_S (As := [.int i, .int n, .null]) (rest := []) F (k_J7_checkIndex_n i n h0 h1) (va_cwS 3 hts (lw_S q991 q992 q113 q993) rfl rfl rfl (by decide +kernel) ⟨Nat.le_of_ble_eq_true rfl, Nat.le_of_ble_eq_true rfl⟩) rfl hl.1 rfl (Nat.le_of_ble_eq_true rfl) dJ5_checkIndex_5 ⟨Nat.le_of_ble_eq_true rfl, Nat.le_of_ble_eq_true rfl⟩) ?_
  refine lv_pop hx hb dJ5_checkIndex_8 rfl ?_
  exact W.vret hx hb hr (fun t ht _ => ⟨rfl, by rw [ht]; exact hw_eq hI (rfl), hS.F ht⟩) hS.2.2 dJ5_checkIndex_9
theorem k_J5_checkIndex {l : Launch} {D : va_G} {cf : cmap} {A : Nat → Prop} {σ : Nat × Nat × Value} (i n : Int32) (hσ : σ.2.2 = .null ∨ ∃ a, σ.2.2 = .ref a) (h0 : ¬ i < 0) (h1 : i < n) : Met l yJ5_checkIndex (ws_ yJ5_checkIndex cJ5_checkIndex 2 none) ({ frames := 1, cells := 0, slots := 0, locals := 22 } : Room) (va_Pc [.int i, .int n] (pS D cf A σ)) (nQ D cf A none) 0 0 A := by
  rcases hσ with h | ⟨a, h⟩
  · exact k_J5_checkIndex_n i n h h0 h1
  · exact k_J5_checkIndex_r i n a h h0 h1
theorem k_J6_charAt {l : Launch} {D : va_G} {cf : cmap} {A : Nat → Prop} {σ : Nat × Nat × Value} (k : Nat) (hk : k < 91) (hσ : σ.2.2 = .null ∨ ∃ a, σ.2.2 = .ref a) : Met l yJ6_charAt (ws_ yJ6_charAt cJ6_charAt 2 (some .char)) ({ frames := 2, cells := 0, slots := 0, locals := 43 } : Room) (va_Pc [.ref σ.2.1, .int (nI k)] (pS D (cf) A σ)) (nQ D (cf) A (some (.int (nI (keyL.getD k 0))))) 0 0 A := by
  refine met_S (by decide) rfl (Nat.le_of_ble_eq_true rfl) ?_
  intro p e s m below meth c ls hx hb hr hml hown hts hlocks hl hI hK hSS
  have F : CallFix p m c cJ6_charAt 2 s _ lw_all RJ6 := ⟨hx, hb, hml, hown, hts⟩
  have hl : lv_has ls 2 [(0, .ref σ.2.1), (1, .int (nI k))] := hl
  have hS : va_S A s.heap s.heap [] := va_S.rf
  refine lv_iload_n hx hb dJ6_charAt_0 rfl (lv_at hl 1 rfl) ?_
  refine lv_aload_n hx hb dJ6_charAt_1 rfl (lv_at hl 0 rfl) ?_
  refine va_tlen (v := 91) hx hb ((hSS.2.1.1 0 (by decide)).2.2.2) hS rfl dJ6_charAt_2 ?_
  refine c_m (k_SS (As := [.int (nI k), .int 91]) (rest := []) F (k_J5_checkIndex (nI k) 91 hσ (nI_pos (by omega)) (nI_lt (b := 91) hk (by decide))) (va_cwS 2 hts (lw_S q986 q987 q111 q988) rfl rfl rfl (by decide +kernel) ⟨Nat.le_of_ble_eq_true rfl, Nat.le_of_ble_eq_true rfl⟩) hI hK hSS hS rfl hl.1 rfl (Nat.le_of_ble_eq_true rfl) dJ6_charAt_3 ⟨Nat.le_of_ble_eq_true rfl, Nat.le_of_ble_eq_true rfl⟩) hS (fun H1 locs1 hI hS => ?_)
  refine lv_aload_n hx hb dJ6_charAt_6 rfl (lv_at hl 0 rfl) ?_
  refine lv_iload_n hx hb dJ6_charAt_7 rfl (lv_at hl 1 rfl) ?_
  refine va_tb (v := .int (nI (keyL.getD k 0))) hx hb ((hSS.2.1.1 0 (by decide)).2.2.2) hS (vp_in_nI hk (by decide)) (key_at hk) dJ6_charAt_8 ?_
  refine lv_sipush (v := 255) hx hb dJ6_charAt_9 (by decide) ?_
  refine lv_iand hx hb dJ6_charAt_12 ?_
  refine lv_i2c (v := ((((nI (keyL.getD k 0)) &&& (255 : Int32)) : Int32).toUInt32 % 65536).toInt32) hx hb dJ6_charAt_13 rfl ?_
  rw [key_c hk]
  exact W.zret hx hb hr (nar_key _ hk) (fun t ht _ => ⟨rI (rfl), by rw [ht]; exact hw_eq hI (rfl), hS.F ht⟩) hS.2.2 dJ6_charAt_14
theorem k_J5_isLatin1 {l : Launch} {D : va_G} {cf : cmap} {A : Nat → Prop} {σ : Nat × Nat × Value}  : Met l yJ5_isLatin1 (ws_ yJ5_isLatin1 cJ5_isLatin1 1 (some .boolean)) ({ frames := 0, cells := 0, slots := 0, locals := 0 } : Room) (va_Pc [.ref σ.1] (pS D (cf) A σ)) (rQ (.int 1)) 0 0 nof := by
  refine met_S (by decide) rfl (Nat.le_of_ble_eq_true rfl) ?_
  intro p e s m below meth c ls hx hb hr hml hown hts hlocks hl hI hK hSS
  have F : CallFix p m c cJ5_isLatin1 1 s _ lw_all RJ5 := ⟨hx, hb, hml, hown, hts⟩
  have hl : lv_has ls 1 [(0, .ref σ.1)] := hl
  have hS : va_S A s.heap s.heap [] := va_S.rf
  refine va_gets hx hb hSS.2.2.1 hS hown (hts _ q981) (fun _ h => h) dJ5_isLatin1_0 ?_
  refine lv_if_eq (tgt := 17) hx hb dJ5_isLatin1_3 (by decide) (fun c_3 => ?_) (fun c_3 => ?_)
  · skip
    have c_3 : 1 = 0 := (neq (a := 1) (b := 0) (rfl) (rfl) (by omega) (by omega)).mp c_3
    exact absurd c_3 (by decide)
  · skip
    have c_3 : ¬ 1 = 0 := fun z => c_3 ((neq (a := 1) (b := 0) (rfl) (rfl) (by omega) (by omega)).mpr z)
    refine lv_aload_n hx hb dJ5_isLatin1_6 rfl (lv_at hl 0 rfl) ?_
    refine vk_getf hx hb ((hSS.2.1.1 0 (by decide)).2.1) hS hown (hts _ q1656) (fun _ h => h) dJ5_isLatin1_7 ?_
    refine lv_if_ne (tgt := 17) hx hb dJ5_isLatin1_10 (by decide) (fun c_10 => ?_) (fun c_10 => ?_)
    · skip
      have c_10 : ¬ 0 = 0 := fun z => c_10 ((neq (a := 0) (b := 0) (rfl) (rfl) (by omega) (by omega)).mpr z)
      exact absurd (by decide) c_10
    · skip
      have c_10 : 0 = 0 := (neq (a := 0) (b := 0) (rfl) (rfl) (by omega) (by omega)).mp c_10
      refine lv_iconst (v := 1) hx hb dJ5_isLatin1_13 (by decide) ?_
      refine lv_goto (tgt := 18) hx hb dJ5_isLatin1_14 (by decide) ?_
      exact W.zret hx hb hr (rfl) (fun t ht _ => ⟨rI (rfl), ht⟩) (fun q h => by cases h) dJ5_isLatin1_18
theorem k_J5_charAt {l : Launch} {D : va_G} {cf : cmap} {A : Nat → Prop} {σ : Nat × Nat × Value} (k : Nat) (hk : k < 91) (hσ : σ.2.2 = .null ∨ ∃ a, σ.2.2 = .ref a) : Met l yJ5_charAt (ws_ yJ5_charAt cJ5_charAt 2 (some .char)) ({ frames := 3, cells := 0, slots := 0, locals := 64 } : Room) (va_Pc [.ref σ.1, .int (nI k)] (pS D (cf) A σ)) (nQ D (cf) A (some (.int (nI (keyL.getD k 0))))) 0 0 A := by
  refine met_S (by decide) rfl (Nat.le_of_ble_eq_true rfl) ?_
  intro p e s m below meth c ls hx hb hr hml hown hts hlocks hl hI hK hSS
  have F : CallFix p m c cJ5_charAt 2 s _ lw_all RJ5 := ⟨hx, hb, hml, hown, hts⟩
  have hl : lv_has ls 2 [(0, .ref σ.1), (1, .int (nI k))] := hl
  have hS : va_S A s.heap s.heap [] := va_S.rf
  refine lv_aload_n hx hb dJ5_charAt_0 rfl (lv_at hl 0 rfl) ?_
  refine c_r (k_VS (As := []) (rest := []) F (k_J5_isLatin1) (cwV 0 hts (lw_V q977 q978 q979 q111 q980) rfl rfl rfl (by decide +kernel) ⟨Nat.le_of_ble_eq_true rfl, Nat.le_of_ble_eq_true rfl⟩) hI hK hSS hS (vk_recv (i := 0) hSS.2.1 (by decide) hS) rfl hl.1 rfl (Nat.le_of_ble_eq_true rfl) dJ5_charAt_1 ⟨Nat.le_of_ble_eq_true rfl, Nat.le_of_ble_eq_true rfl⟩) ?_
  refine lv_if_eq (tgt := 16) hx hb dJ5_charAt_4 (by decide) (fun c_4 => ?_) (fun c_4 => ?_)
  · skip
    have c_4 : 1 = 0 := (neq (a := 1) (b := 0) (rfl) (rfl) (by omega) (by omega)).mp c_4
    exact absurd c_4 (by decide)
  · skip
    have c_4 : ¬ 1 = 0 := fun z => c_4 ((neq (a := 1) (b := 0) (rfl) (rfl) (by omega) (by omega)).mpr z)
    refine lv_aload_n hx hb dJ5_charAt_7 rfl (lv_at hl 0 rfl) ?_
    refine vk_getf hx hb ((hSS.2.1.1 0 (by decide)).2.2.1) hS hown (hts _ q1657) (fun _ h => h) dJ5_charAt_8 ?_
    refine lv_iload_n hx hb dJ5_charAt_11 rfl (lv_at hl 1 rfl) ?_
    refine c_m (k_SS (As := [.ref σ.2.1, .int (nI k)]) (rest := []) F (k_J6_charAt k hk hσ) (va_cwS 2 hts (lw_S q983 q984 q112 q985) rfl rfl rfl (by decide +kernel) ⟨Nat.le_of_ble_eq_true rfl, Nat.le_of_ble_eq_true rfl⟩) hI hK hSS hS rfl hl.1 rfl (Nat.le_of_ble_eq_true rfl) dJ5_charAt_12 ⟨Nat.le_of_ble_eq_true rfl, Nat.le_of_ble_eq_true rfl⟩) hS (fun H1 locs1 hI hS => ?_)
    exact W.zret hx hb hr (nar_key _ hk) (fun t ht _ => ⟨rI (rfl), by rw [ht]; exact hw_eq hI (rfl), hS.F ht⟩) hS.2.2 dJ5_charAt_15
