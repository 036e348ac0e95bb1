/-! constructors: what is thrown, slots, gloves -/
theorem n_J0_init_X1 {l : Launch} {D : va_G} {A : Nat → Prop} {z : Value × Value} {cf : cmap} {i0 h0 : Nat} (hc : cf i0 = some (h0, .inr (1, [.null, .null, .null, .null, .null, .int 0, .int 0]))) : Met l yJ0_init_2 (ws_ yJ0_init_2 cJ0_init_2 5 none) ({ frames := 1, cells := 0, slots := 0, locals := 12 } : Room) (va_Pc [.ref h0, .null, .null, .int 0, .int 0] (pN D cf A z)) (nQ D cf A none) 0 0 A := by
  refine met_N (by decide) rfl (Nat.le_of_ble_eq_true rfl) ?_
  intro p e s m below meth c ls hx hb hr hml hown hts hlocks hl hI hK hX hin
  have F : CallFix p m c cJ0_init_2 5 s _ lw_all RJ0 := ⟨hx, hb, hml, hown, hts⟩
  have hl : lv_has ls 5 [(0, .ref h0), (1, .null), (2, .null), (3, .int 0), (4, .int 0)] := hl
  have hS : va_S A s.heap s.heap [] := va_S.rf
  have hz1 : narrow (.array (.object "java/lang/StackTraceElement")) z.1 = z.1 ∧ fits (.array (.object "java/lang/StackTraceElement")) z.1 = true := by
    rcases hX.2.1.2.1 with h | ⟨a, h⟩ <;> rw [h] <;> exact ⟨rfl, rfl⟩
  have hz2 : narrow (.object "java/util/List") z.2 = z.2 ∧ fits (.object "java/util/List") z.2 = true := by
    rcases hX.2.1.2.2 with h | ⟨a, h⟩ <;> rw [h] <;> exact ⟨rfl, rfl⟩
  refine lv_aload_n hx hb dJ0_init_2_0 rfl (lv_at hl 0 rfl) ?_
  refine W.objInit hx hb hown (hts _ q148) (hts _ q121) (hts _ q122) rfl (by rw [hml]; exact hl.1) rfl dJ0_init_2_1 (Nat.le_of_ble_eq_true rfl) (Nat.le_of_ble_eq_true rfl) ?_
  refine W.eq (g2 := F0 m 4 ls []) rfl ?_
  refine lv_aload_n hx hb dJ0_init_2_4 rfl (lv_at hl 0 rfl) ?_
  refine lv_aload_n hx hb dJ0_init_2_5 rfl (lv_at hl 0 rfl) ?_
  refine r_put (C := RX1) (T := TX1) (N := 7) (cf' := cadd _ i0 (h0, .inr (1, [.ref h0, .null, .null, .null, .null, .int 0, .int 0]))) hx hb hts in_X1 tyX1 tyX1_ok nmX1 hown hK hI hS (hc) rfl 0 (by decide) (hts _ q178) (fun _ h => h) rfl (ty := (.object "java/lang/Throwable")) (by decide +kernel) rfl rfl (Nat.le_of_ble_eq_true rfl) (fun _ => rfl) dJ0_init_2_6 (fun H1 locs1 hI hS => ?_)
  refine lv_aload_n hx hb dJ0_init_2_9 rfl (lv_at hl 0 rfl) ?_
  refine va_gets hx hb hX.2.2.1 hS hown (hts _ q149) (fun _ h => h) dJ0_init_2_10 ?_
  refine r_put (C := RX1) (T := TX1) (N := 7) (cf' := cadd _ i0 (h0, .inr (1, [.ref h0, z.1, .null, .null, .null, .int 0, .int 0]))) hx hb hts in_X1 tyX1 tyX1_ok nmX1 hown hK hI hS (cadd_at _ _ _) rfl 1 (by decide) (hts _ q179) (fun _ h => h) rfl (ty := (.array (.object "java/lang/StackTraceElement"))) (by decide +kernel) hz1.1 hz1.2 (Nat.le_of_ble_eq_true rfl) (fun _ => rfl) dJ0_init_2_13 (fun H1 locs1 hI hS => ?_)
  refine lv_aload_n hx hb dJ0_init_2_16 rfl (lv_at hl 0 rfl) ?_
  refine va_gets hx hb hX.2.2.2.1 hS hown (hts _ q151) (fun _ h => h) dJ0_init_2_17 ?_
  refine r_put (C := RX1) (T := TX1) (N := 7) (cf' := cadd _ i0 (h0, .inr (1, [.ref h0, z.1, z.2, .null, .null, .int 0, .int 0]))) hx hb hts in_X1 tyX1 tyX1_ok nmX1 hown hK hI hS (cadd_at _ _ _) rfl 2 (by decide) (hts _ q180) (fun _ h => h) rfl (ty := (.object "java/util/List")) (by decide +kernel) hz2.1 hz2.2 (Nat.le_of_ble_eq_true rfl) (fun _ => rfl) dJ0_init_2_20 (fun H1 locs1 hI hS => ?_)
  refine lv_iload hx hb dJ0_init_2_23 (lv_at hl 4 rfl) ?_
  refine lv_if_eq (tgt := 36) hx hb dJ0_init_2_25 (by decide) (fun _ => ?_) (fun h => absurd rfl h)
  refine lv_aload_n hx hb dJ0_init_2_36 rfl (lv_at hl 0 rfl) ?_
  refine lv_null hx hb dJ0_init_2_37 ?_
  refine r_put (C := RX1) (T := TX1) (N := 7) (cf' := cadd _ i0 (h0, .inr (1, [.ref h0, .null, z.2, .null, .null, .int 0, .int 0]))) hx hb hts in_X1 tyX1 tyX1_ok nmX1 hown hK hI hS (cadd_at _ _ _) rfl 1 (by decide) (hts _ q179) (fun _ h => h) rfl (ty := (.array (.object "java/lang/StackTraceElement"))) (by decide +kernel) rfl rfl (Nat.le_of_ble_eq_true rfl) (fun _ => rfl) dJ0_init_2_38 (fun H1 locs1 hI hS => ?_)
  refine lv_aload_n hx hb dJ0_init_2_41 rfl (lv_at hl 0 rfl) ?_
  refine lv_aload_nN hx hb dJ0_init_2_42 rfl (lv_at hl 1 rfl) ?_
  refine r_put (C := RX1) (T := TX1) (N := 7) (cf' := cadd _ i0 (h0, .inr (1, [.ref h0, .null, z.2, .null, .null, .int 0, .int 0]))) hx hb hts in_X1 tyX1 tyX1_ok nmX1 hown hK hI hS (cadd_at _ _ _) rfl 3 (by decide) (hts _ q177) (fun _ h => h) rfl (ty := (.object "java/lang/String")) (by decide +kernel) rfl rfl (Nat.le_of_ble_eq_true rfl) (fun _ => rfl) dJ0_init_2_43 (fun H1 locs1 hI hS => ?_)
  refine lv_aload_n hx hb dJ0_init_2_46 rfl (lv_at hl 0 rfl) ?_
  refine lv_aload_nN hx hb dJ0_init_2_47 rfl (lv_at hl 2 rfl) ?_
  refine r_put (C := RX1) (T := TX1) (N := 7) (cf' := cadd _ i0 (h0, .inr (1, [.null, .null, z.2, .null, .null, .int 0, .int 0]))) hx hb hts in_X1 tyX1 tyX1_ok nmX1 hown hK hI hS (cadd_at _ _ _) rfl 0 (by decide) (hts _ q178) (fun _ h => h) rfl (ty := (.object "java/lang/Throwable")) (by decide +kernel) rfl rfl (Nat.le_of_ble_eq_true rfl) (fun _ => rfl) dJ0_init_2_48 (fun H1 locs1 hI hS => ?_)
  refine lv_iload_n hx hb dJ0_init_2_51 rfl (lv_at hl 3 rfl) ?_
  refine lv_if_ne (tgt := 60) hx hb dJ0_init_2_52 (by decide) (fun h => absurd rfl h) (fun _ => ?_)
  refine lv_aload_n hx hb dJ0_init_2_55 rfl (lv_at hl 0 rfl) ?_
  refine lv_null hx hb dJ0_init_2_56 ?_
  refine r_put (C := RX1) (T := TX1) (N := 7) (cf' := cadd _ i0 (h0, .inr (1, [.null, .null, .null, .null, .null, .int 0, .int 0]))) hx hb hts in_X1 tyX1 tyX1_ok nmX1 hown hK hI hS (cadd_at _ _ _) rfl 2 (by decide) (hts _ q180) (fun _ h => h) rfl (ty := (.object "java/util/List")) (by decide +kernel) rfl rfl (Nat.le_of_ble_eq_true rfl) (fun _ => rfl) dJ0_init_2_57 (fun H1 locs1 hI hS => ?_)
  simp only [cadd_two] at hI
  rw [cadd_self hc] at hI
  exact W.vret hx hb hr (fun t ht _ => ⟨rfl, by rw [ht]; exact hI, hS.F ht⟩) hS.2.2 dJ0_init_2_60
theorem n_J1_init_X1 {l : Launch} {D : va_G} {A : Nat → Prop} {z : Value × Value} {cf : cmap} {i0 h0 : Nat} (hc : cf i0 = some (h0, .inr (1, [.null, .null, .null, .null, .null, .int 0, .int 0]))) : Met l yJ1_init (ws_ yJ1_init cJ1_init 5 none) ({ frames := 2, cells := 0, slots := 0, locals := 36 } : Room) (va_Pc [.ref h0, .null, .null, .int 0, .int 0] (pN D cf A z)) (nQ D cf A none) 0 0 A := by
  refine met_N (by decide) rfl (Nat.le_of_ble_eq_true rfl) ?_
  intro p e s m below meth c ls hx hb hr hml hown hts hlocks hl hI hK hX hin
  have F : CallFix p m c cJ1_init 5 s _ lw_all RJ1 := ⟨hx, hb, hml, hown, hts⟩
  have hl : lv_has ls 5 [(0, .ref h0), (1, .null), (2, .null), (3, .int 0), (4, .int 0)] := hl
  have hS : va_S A s.heap s.heap [] := va_S.rf
  refine lv_aload_n hx hb dJ1_init_0 rfl (lv_at hl 0 rfl) ?_
  refine lv_aload_nN hx hb dJ1_init_1 rfl (lv_at hl 1 rfl) ?_
  refine lv_aload_nN hx hb dJ1_init_2 rfl (lv_at hl 2 rfl) ?_
  refine lv_iload_n hx hb dJ1_init_3 rfl (lv_at hl 3 rfl) ?_
  refine lv_iload hx hb dJ1_init_4 (lv_at hl 4 rfl) ?_
  refine c_m (k_I (As := [.null, .null, .int 0, .int 0]) (rest := []) F (n_J0_init_X1 hc) (cwI 4 hts (lw_meth q174) rfl rfl rfl (hts _ q92) (hts _ q172) (hts _ q173) rfl (by decide +kernel) ⟨Nat.le_of_ble_eq_true rfl, Nat.le_of_ble_eq_true rfl⟩) hI hK hX hS rfl hl.1 rfl (Nat.le_of_ble_eq_true rfl) dJ1_init_6 ⟨Nat.le_of_ble_eq_true rfl, Nat.le_of_ble_eq_true rfl⟩) hS (fun H1 locs1 hI hS => ?_)
  exact W.vret hx hb hr (fun t ht _ => ⟨rfl, by rw [ht]; exact hI, hS.F ht⟩) hS.2.2 dJ1_init_9
theorem n_J2_init_X1 {l : Launch} {D : va_G} {A : Nat → Prop} {z : Value × Value} {cf : cmap} {i0 h0 : Nat} (hc : cf i0 = some (h0, .inr (1, [.null, .null, .null, .null, .null, .int 0, .int 0]))) : Met l yJ2_init (ws_ yJ2_init cJ2_init 5 none) ({ frames := 3, cells := 0, slots := 0, locals := 60 } : Room) (va_Pc [.ref h0, .null, .null, .int 0, .int 0] (pN D cf A z)) (nQ D cf A none) 0 0 A := by
  refine met_N (by decide) rfl (Nat.le_of_ble_eq_true rfl) ?_
  intro p e s m below meth c ls hx hb hr hml hown hts hlocks hl hI hK hX hin
  have F : CallFix p m c cJ2_init 5 s _ lw_all RJ2 := ⟨hx, hb, hml, hown, hts⟩
  have hl : lv_has ls 5 [(0, .ref h0), (1, .null), (2, .null), (3, .int 0), (4, .int 0)] := hl
  have hS : va_S A s.heap s.heap [] := va_S.rf
  refine lv_aload_n hx hb dJ2_init_0 rfl (lv_at hl 0 rfl) ?_
  refine lv_aload_nN hx hb dJ2_init_1 rfl (lv_at hl 1 rfl) ?_
  refine lv_aload_nN hx hb dJ2_init_2 rfl (lv_at hl 2 rfl) ?_
  refine lv_iload_n hx hb dJ2_init_3 rfl (lv_at hl 3 rfl) ?_
  refine lv_iload hx hb dJ2_init_4 (lv_at hl 4 rfl) ?_
  refine c_m (k_I (As := [.null, .null, .int 0, .int 0]) (rest := []) F (n_J1_init_X1 hc) (cwI 4 hts (lw_meth q171) rfl rfl rfl (hts _ q93) (hts _ q169) (hts _ q170) rfl (by decide +kernel) ⟨Nat.le_of_ble_eq_true rfl, Nat.le_of_ble_eq_true rfl⟩) hI hK hX hS rfl hl.1 rfl (Nat.le_of_ble_eq_true rfl) dJ2_init_6 ⟨Nat.le_of_ble_eq_true rfl, Nat.le_of_ble_eq_true rfl⟩) hS (fun H1 locs1 hI hS => ?_)
  exact W.vret hx hb hr (fun t ht _ => ⟨rfl, by rw [ht]; exact hI, hS.F ht⟩) hS.2.2 dJ2_init_9
theorem n_X1_init {l : Launch} {D : va_G} {A : Nat → Prop} {z : Value × Value} {cf : cmap} {i0 h0 : Nat} (hc : cf i0 = some (h0, .inr (1, [.null, .null, .null, .null, .null, .int 0, .int 0]))) : Met l yX1_init (ws_ yX1_init cX1_init 1 none) ({ frames := 4, cells := 0, slots := 0, locals := 84 } : Room) (va_Pc [.ref h0] (pN D cf A z)) (nQ D cf A none) 0 0 A := by
  refine met_N (by decide) rfl (Nat.le_of_ble_eq_true rfl) ?_
  intro p e s m below meth c ls hx hb hr hml hown hts hlocks hl hI hK hX hin
  have F : CallFix p m c cX1_init 1 s _ lw_all RX1 := ⟨hx, hb, hml, hown, hts⟩
  have hl : lv_has ls 1 [(0, .ref h0)] := hl
  have hS : va_S A s.heap s.heap [] := va_S.rf
  refine lv_aload_n hx hb dX1_init_0 rfl (lv_at hl 0 rfl) ?_
  refine lv_null hx hb dX1_init_1 ?_
  refine lv_null hx hb dX1_init_2 ?_
  refine lv_iconst (v := 0) hx hb dX1_init_3 (by decide) ?_
  refine lv_iconst (v := 0) hx hb dX1_init_4 (by decide) ?_
  refine c_m (k_I (As := [.null, .null, .int 0, .int 0]) (rest := []) F (n_J2_init_X1 hc) (cwI 4 hts (lw_meth q168) rfl rfl rfl (hts _ q94) (hts _ q166) (hts _ q167) rfl (by decide +kernel) ⟨Nat.le_of_ble_eq_true rfl, Nat.le_of_ble_eq_true rfl⟩) hI hK hX hS rfl hl.1 rfl (Nat.le_of_ble_eq_true rfl) dX1_init_5 ⟨Nat.le_of_ble_eq_true rfl, Nat.le_of_ble_eq_true rfl⟩) hS (fun H1 locs1 hI hS => ?_)
  exact W.vret hx hb hr (fun t ht _ => ⟨rfl, by rw [ht]; exact hI, hS.F ht⟩) hS.2.2 dX1_init_8
theorem n_J0_init_X3 {l : Launch} {D : va_G} {A : Nat → Prop} {z : Value × Value} {cf : cmap} {i0 h0 : Nat} (hc : cf i0 = some (h0, .inr (3, [.null, .null, .null, .null, .null, .int 0]))) : Met l yJ0_init_2 (ws_ yJ0_init_2 cJ0_init_2 5 none) ({ frames := 1, cells := 0, slots := 0, locals := 12 } : Room) (va_Pc [.ref h0, .null, .null, .int 0, .int 0] (pN D cf A z)) (nQ D cf A none) 0 0 A := by
  refine met_N (by decide) rfl (Nat.le_of_ble_eq_true rfl) ?_
  intro p e s m below meth c ls hx hb hr hml hown hts hlocks hl hI hK hX hin
  have F : CallFix p m c cJ0_init_2 5 s _ lw_all RJ0 := ⟨hx, hb, hml, hown, hts⟩
  have hl : lv_has ls 5 [(0, .ref h0), (1, .null), (2, .null), (3, .int 0), (4, .int 0)] := hl
  have hS : va_S A s.heap s.heap [] := va_S.rf
  have hz1 : narrow (.array (.object "java/lang/StackTraceElement")) z.1 = z.1 ∧ fits (.array (.object "java/lang/StackTraceElement")) z.1 = true := by
    rcases hX.2.1.2.1 with h | ⟨a, h⟩ <;> rw [h] <;> exact ⟨rfl, rfl⟩
  have hz2 : narrow (.object "java/util/List") z.2 = z.2 ∧ fits (.object "java/util/List") z.2 = true := by
    rcases hX.2.1.2.2 with h | ⟨a, h⟩ <;> rw [h] <;> exact ⟨rfl, rfl⟩
  refine lv_aload_n hx hb dJ0_init_2_0 rfl (lv_at hl 0 rfl) ?_
  refine W.objInit hx hb hown (hts _ q148) (hts _ q121) (hts _ q122) rfl (by rw [hml]; exact hl.1) rfl dJ0_init_2_1 (Nat.le_of_ble_eq_true rfl) (Nat.le_of_ble_eq_true rfl) ?_
  refine W.eq (g2 := F0 m 4 ls []) rfl ?_
  refine lv_aload_n hx hb dJ0_init_2_4 rfl (lv_at hl 0 rfl) ?_
  refine lv_aload_n hx hb dJ0_init_2_5 rfl (lv_at hl 0 rfl) ?_
  refine r_put (C := RX3) (T := TX3) (N := 6) (cf' := cadd _ i0 (h0, .inr (3, [.ref h0, .null, .null, .null, .null, .int 0]))) hx hb hts in_X3 tyX3 tyX3_ok nmX3 hown hK hI hS (hc) rfl 0 (by decide) (hts _ q178) (fun _ h => h) rfl (ty := (.object "java/lang/Throwable")) (by decide +kernel) rfl rfl (Nat.le_of_ble_eq_true rfl) (fun _ => rfl) dJ0_init_2_6 (fun H1 locs1 hI hS => ?_)
  refine lv_aload_n hx hb dJ0_init_2_9 rfl (lv_at hl 0 rfl) ?_
  refine va_gets hx hb hX.2.2.1 hS hown (hts _ q149) (fun _ h => h) dJ0_init_2_10 ?_
  refine r_put (C := RX3) (T := TX3) (N := 6) (cf' := cadd _ i0 (h0, .inr (3, [.ref h0, z.1, .null, .null, .null, .int 0]))) hx hb hts in_X3 tyX3 tyX3_ok nmX3 hown hK hI hS (cadd_at _ _ _) rfl 1 (by decide) (hts _ q179) (fun _ h => h) rfl (ty := (.array (.object "java/lang/StackTraceElement"))) (by decide +kernel) hz1.1 hz1.2 (Nat.le_of_ble_eq_true rfl) (fun _ => rfl) dJ0_init_2_13 (fun H1 locs1 hI hS => ?_)
  refine lv_aload_n hx hb dJ0_init_2_16 rfl (lv_at hl 0 rfl) ?_
  refine va_gets hx hb hX.2.2.2.1 hS hown (hts _ q151) (fun _ h => h) dJ0_init_2_17 ?_
  refine r_put (C := RX3) (T := TX3) (N := 6) (cf' := cadd _ i0 (h0, .inr (3, [.ref h0, z.1, z.2, .null, .null, .int 0]))) hx hb hts in_X3 tyX3 tyX3_ok nmX3 hown hK hI hS (cadd_at _ _ _) rfl 2 (by decide) (hts _ q180) (fun _ h => h) rfl (ty := (.object "java/util/List")) (by decide +kernel) hz2.1 hz2.2 (Nat.le_of_ble_eq_true rfl) (fun _ => rfl) dJ0_init_2_20 (fun H1 locs1 hI hS => ?_)
  refine lv_iload hx hb dJ0_init_2_23 (lv_at hl 4 rfl) ?_
  refine lv_if_eq (tgt := 36) hx hb dJ0_init_2_25 (by decide) (fun _ => ?_) (fun h => absurd rfl h)
  refine lv_aload_n hx hb dJ0_init_2_36 rfl (lv_at hl 0 rfl) ?_
  refine lv_null hx hb dJ0_init_2_37 ?_
  refine r_put (C := RX3) (T := TX3) (N := 6) (cf' := cadd _ i0 (h0, .inr (3, [.ref h0, .null, z.2, .null, .null, .int 0]))) hx hb hts in_X3 tyX3 tyX3_ok nmX3 hown hK hI hS (cadd_at _ _ _) rfl 1 (by decide) (hts _ q179) (fun _ h => h) rfl (ty := (.array (.object "java/lang/StackTraceElement"))) (by decide +kernel) rfl rfl (Nat.le_of_ble_eq_true rfl) (fun _ => rfl) dJ0_init_2_38 (fun H1 locs1 hI hS => ?_)
  refine lv_aload_n hx hb dJ0_init_2_41 rfl (lv_at hl 0 rfl) ?_
  refine lv_aload_nN hx hb dJ0_init_2_42 rfl (lv_at hl 1 rfl) ?_
  refine r_put (C := RX3) (T := TX3) (N := 6) (cf' := cadd _ i0 (h0, .inr (3, [.ref h0, .null, z.2, .null, .null, .int 0]))) hx hb hts in_X3 tyX3 tyX3_ok nmX3 hown hK hI hS (cadd_at _ _ _) rfl 3 (by decide) (hts _ q177) (fun _ h => h) rfl (ty := (.object "java/lang/String")) (by decide +kernel) rfl rfl (Nat.le_of_ble_eq_true rfl) (fun _ => rfl) dJ0_init_2_43 (fun H1 locs1 hI hS => ?_)
  refine lv_aload_n hx hb dJ0_init_2_46 rfl (lv_at hl 0 rfl) ?_
  refine lv_aload_nN hx hb dJ0_init_2_47 rfl (lv_at hl 2 rfl) ?_
  refine r_put (C := RX3) (T := TX3) (N := 6) (cf' := cadd _ i0 (h0, .inr (3, [.null, .null, z.2, .null, .null, .int 0]))) hx hb hts in_X3 tyX3 tyX3_ok nmX3 hown hK hI hS (cadd_at _ _ _) rfl 0 (by decide) (hts _ q178) (fun _ h => h) rfl (ty := (.object "java/lang/Throwable")) (by decide +kernel) rfl rfl (Nat.le_of_ble_eq_true rfl) (fun _ => rfl) dJ0_init_2_48 (fun H1 locs1 hI hS => ?_)
  refine lv_iload_n hx hb dJ0_init_2_51 rfl (lv_at hl 3 rfl) ?_
  refine lv_if_ne (tgt := 60) hx hb dJ0_init_2_52 (by decide) (fun h => absurd rfl h) (fun _ => ?_)
  refine lv_aload_n hx hb dJ0_init_2_55 rfl (lv_at hl 0 rfl) ?_
  refine lv_null hx hb dJ0_init_2_56 ?_
  refine r_put (C := RX3) (T := TX3) (N := 6) (cf' := cadd _ i0 (h0, .inr (3, [.null, .null, .null, .null, .null, .int 0]))) hx hb hts in_X3 tyX3 tyX3_ok nmX3 hown hK hI hS (cadd_at _ _ _) rfl 2 (by decide) (hts _ q180) (fun _ h => h) rfl (ty := (.object "java/util/List")) (by decide +kernel) rfl rfl (Nat.le_of_ble_eq_true rfl) (fun _ => rfl) dJ0_init_2_57 (fun H1 locs1 hI hS => ?_)
  simp only [cadd_two] at hI
  rw [cadd_self hc] at hI
  exact W.vret hx hb hr (fun t ht _ => ⟨rfl, by rw [ht]; exact hI, hS.F ht⟩) hS.2.2 dJ0_init_2_60
theorem n_J1_init_X3 {l : Launch} {D : va_G} {A : Nat → Prop} {z : Value × Value} {cf : cmap} {i0 h0 : Nat} (hc : cf i0 = some (h0, .inr (3, [.null, .null, .null, .null, .null, .int 0]))) : Met l yJ1_init (ws_ yJ1_init cJ1_init 5 none) ({ frames := 2, cells := 0, slots := 0, locals := 36 } : Room) (va_Pc [.ref h0, .null, .null, .int 0, .int 0] (pN D cf A z)) (nQ D cf A none) 0 0 A := by
  refine met_N (by decide) rfl (Nat.le_of_ble_eq_true rfl) ?_
  intro p e s m below meth c ls hx hb hr hml hown hts hlocks hl hI hK hX hin
  have F : CallFix p m c cJ1_init 5 s _ lw_all RJ1 := ⟨hx, hb, hml, hown, hts⟩
  have hl : lv_has ls 5 [(0, .ref h0), (1, .null), (2, .null), (3, .int 0), (4, .int 0)] := hl
  have hS : va_S A s.heap s.heap [] := va_S.rf
  refine lv_aload_n hx hb dJ1_init_0 rfl (lv_at hl 0 rfl) ?_
  refine lv_aload_nN hx hb dJ1_init_1 rfl (lv_at hl 1 rfl) ?_
  refine lv_aload_nN hx hb dJ1_init_2 rfl (lv_at hl 2 rfl) ?_
  refine lv_iload_n hx hb dJ1_init_3 rfl (lv_at hl 3 rfl) ?_
  refine lv_iload hx hb dJ1_init_4 (lv_at hl 4 rfl) ?_
  refine c_m (k_I (As := [.null, .null, .int 0, .int 0]) (rest := []) F (n_J0_init_X3 hc) (cwI 4 hts (lw_meth q174) rfl rfl rfl (hts _ q92) (hts _ q172) (hts _ q173) rfl (by decide +kernel) ⟨Nat.le_of_ble_eq_true rfl, Nat.le_of_ble_eq_true rfl⟩) hI hK hX hS rfl hl.1 rfl (Nat.le_of_ble_eq_true rfl) dJ1_init_6 ⟨Nat.le_of_ble_eq_true rfl, Nat.le_of_ble_eq_true rfl⟩) hS (fun H1 locs1 hI hS => ?_)
  exact W.vret hx hb hr (fun t ht _ => ⟨rfl, by rw [ht]; exact hI, hS.F ht⟩) hS.2.2 dJ1_init_9
theorem n_J2_init_X3 {l : Launch} {D : va_G} {A : Nat → Prop} {z : Value × Value} {cf : cmap} {i0 h0 : Nat} (hc : cf i0 = some (h0, .inr (3, [.null, .null, .null, .null, .null, .int 0]))) : Met l yJ2_init (ws_ yJ2_init cJ2_init 5 none) ({ frames := 3, cells := 0, slots := 0, locals := 60 } : Room) (va_Pc [.ref h0, .null, .null, .int 0, .int 0] (pN D cf A z)) (nQ D cf A none) 0 0 A := by
  refine met_N (by decide) rfl (Nat.le_of_ble_eq_true rfl) ?_
  intro p e s m below meth c ls hx hb hr hml hown hts hlocks hl hI hK hX hin
  have F : CallFix p m c cJ2_init 5 s _ lw_all RJ2 := ⟨hx, hb, hml, hown, hts⟩
  have hl : lv_has ls 5 [(0, .ref h0), (1, .null), (2, .null), (3, .int 0), (4, .int 0)] := hl
  have hS : va_S A s.heap s.heap [] := va_S.rf
  refine lv_aload_n hx hb dJ2_init_0 rfl (lv_at hl 0 rfl) ?_
  refine lv_aload_nN hx hb dJ2_init_1 rfl (lv_at hl 1 rfl) ?_
  refine lv_aload_nN hx hb dJ2_init_2 rfl (lv_at hl 2 rfl) ?_
  refine lv_iload_n hx hb dJ2_init_3 rfl (lv_at hl 3 rfl) ?_
  refine lv_iload hx hb dJ2_init_4 (lv_at hl 4 rfl) ?_
  refine c_m (k_I (As := [.null, .null, .int 0, .int 0]) (rest := []) F (n_J1_init_X3 hc) (cwI 4 hts (lw_meth q171) rfl rfl rfl (hts _ q93) (hts _ q169) (hts _ q170) rfl (by decide +kernel) ⟨Nat.le_of_ble_eq_true rfl, Nat.le_of_ble_eq_true rfl⟩) hI hK hX hS rfl hl.1 rfl (Nat.le_of_ble_eq_true rfl) dJ2_init_6 ⟨Nat.le_of_ble_eq_true rfl, Nat.le_of_ble_eq_true rfl⟩) hS (fun H1 locs1 hI hS => ?_)
  exact W.vret hx hb hr (fun t ht _ => ⟨rfl, by rw [ht]; exact hI, hS.F ht⟩) hS.2.2 dJ2_init_9
theorem n_X3_init {l : Launch} {D : va_G} {A : Nat → Prop} {z : Value × Value} {cf : cmap} {i0 h0 : Nat} (hc : cf i0 = some (h0, .inr (3, [.null, .null, .null, .null, .null, .int 0]))) : Met l yX3_init (ws_ yX3_init cX3_init 1 none) ({ frames := 4, cells := 0, slots := 0, locals := 84 } : Room) (va_Pc [.ref h0] (pN D cf A z)) (nQ D cf A none) 0 0 A := by
  refine met_N (by decide) rfl (Nat.le_of_ble_eq_true rfl) ?_
  intro p e s m below meth c ls hx hb hr hml hown hts hlocks hl hI hK hX hin
  have F : CallFix p m c cX3_init 1 s _ lw_all RX3 := ⟨hx, hb, hml, hown, hts⟩
  have hl : lv_has ls 1 [(0, .ref h0)] := hl
  have hS : va_S A s.heap s.heap [] := va_S.rf
  refine lv_aload_n hx hb dX3_init_0 rfl (lv_at hl 0 rfl) ?_
  refine lv_null hx hb dX3_init_1 ?_
  refine lv_null hx hb dX3_init_2 ?_
  refine lv_iconst (v := 0) hx hb dX3_init_3 (by decide) ?_
  refine lv_iconst (v := 0) hx hb dX3_init_4 (by decide) ?_
  refine c_m (k_I (As := [.null, .null, .int 0, .int 0]) (rest := []) F (n_J2_init_X3 hc) (cwI 4 hts (lw_meth q168) rfl rfl rfl (hts _ q94) (hts _ q209) (hts _ q167) rfl (by decide +kernel) ⟨Nat.le_of_ble_eq_true rfl, Nat.le_of_ble_eq_true rfl⟩) hI hK hX hS rfl hl.1 rfl (Nat.le_of_ble_eq_true rfl) dX3_init_5 ⟨Nat.le_of_ble_eq_true rfl, Nat.le_of_ble_eq_true rfl⟩) hS (fun H1 locs1 hI hS => ?_)
  exact W.vret hx hb hr (fun t ht _ => ⟨rfl, by rw [ht]; exact hI, hS.F ht⟩) hS.2.2 dX3_init_8
theorem n_X5_init {l : Launch} {D : va_G} {A : Nat → Prop} {z : Value × Value} {cf : cmap} {h0 : Nat} : Met l yX5_init (ws_ yX5_init cX5_init 1 none) ({ frames := 1, cells := 0, slots := 0, locals := 12 } : Room) (va_Pc [.ref h0] (pN D cf A z)) (nQ D cf A none) 0 0 A := by
  refine met_N (by decide) rfl (Nat.le_of_ble_eq_true rfl) ?_
  intro p e s m below meth c ls hx hb hr hml hown hts hlocks hl hI hK hX hin
  have F : CallFix p m c cX5_init 1 s _ lw_all RX5 := ⟨hx, hb, hml, hown, hts⟩
  have hl : lv_has ls 1 [(0, .ref h0)] := hl
  have hS : va_S A s.heap s.heap [] := va_S.rf
  refine lv_aload_n hx hb dX5_init_0 rfl (lv_at hl 0 rfl) ?_
  refine W.objInit hx hb hown (hts _ q295) (hts _ q121) (hts _ q122) rfl (by rw [hml]; exact hl.1) rfl dX5_init_1 (Nat.le_of_ble_eq_true rfl) (Nat.le_of_ble_eq_true rfl) ?_
  refine W.eq (g2 := F0 m 4 ls []) rfl ?_
  exact W.vret hx hb hr (fun t ht _ => ⟨rfl, by rw [ht]; exact hI, hS.F ht⟩) hS.2.2 dX5_init_4
theorem apX_0 : ∀ a, a < 2 → ∀ b, b < 2 → a ≠ b → (TX6 a).1 ≠ (TX6 b).1 ∨ (TX6 a).2.1 ≠ (TX6 b).2.1 := by decide +kernel
theorem apX_1 : ∀ a, a < 3 → ∀ b, b < 3 → a ≠ b → (TX7 a).1 ≠ (TX7 b).1 ∨ (TX7 a).2.1 ≠ (TX7 b).2.1 := by decide +kernel
theorem apX_2 : ∀ a, a < 3 → ∀ b, b < 3 → a ≠ b → (TX8 a).1 ≠ (TX8 b).1 ∨ (TX8 a).2.1 ≠ (TX8 b).2.1 := by decide +kernel
theorem apX_3 : ∀ a, a < 4 → ∀ b, b < 4 → a ≠ b → (TX9 a).1 ≠ (TX9 b).1 ∨ (TX9 a).2.1 ≠ (TX9 b).2.1 := by decide +kernel
theorem apX_4 : ∀ a, a < 5 → ∀ b, b < 5 → a ≠ b → (TX10 a).1 ≠ (TX10 b).1 ∨ (TX10 a).2.1 ≠ (TX10 b).2.1 := by decide +kernel
theorem apX_5 : ∀ a, a < 3 → ∀ b, b < 3 → a ≠ b → (TX11 a).1 ≠ (TX11 b).1 ∨ (TX11 a).2.1 ≠ (TX11 b).2.1 := by decide +kernel
theorem apX_6 : ∀ a, a < 4 → ∀ b, b < 4 → a ≠ b → (TX12 a).1 ≠ (TX12 b).1 ∨ (TX12 a).2.1 ≠ (TX12 b).2.1 := by decide +kernel
theorem n_X6_init_0 {l : Launch} {D : va_G} {A : Nat → Prop} {z : Value × Value} {cf : cmap} {i0 h0 mm : Nat} {v0 n : Int32} {r1 r2 r3 r4 : Value} (hc : cf i0 = some (h0, .inr (6, [.int v0, r1, r2, r3, r4]))) : Met l yX6_init (ws_ yX6_init cX6_init 3 none) ({ frames := 1, cells := 0, slots := 0, locals := 12 } : Room) (va_Pc [.ref h0, .ref mm, .int n] (pN D cf A z)) (nQ D (cadd cf i0 (h0, .inr (6, [.int n, .ref mm, r2, r3, r4]))) A none) 0 0 A := by
  refine met_N (by decide) rfl (Nat.le_of_ble_eq_true rfl) ?_
  intro p e s m below meth c ls hx hb hr hml hown hts hlocks hl hI hK hX hin
  have F : CallFix p m c cX6_init 3 s _ lw_all RX6 := ⟨hx, hb, hml, hown, hts⟩
  have hl : lv_has ls 3 [(0, .ref h0), (1, .ref mm), (2, .int n)] := hl
  have hS : va_S A s.heap s.heap [] := va_S.rf
  have hap := r_apart (ci := 6) hts in_X6 tyX6 tyX6_ok apX_0 hK rfl
  refine lv_aload_n hx hb dX6_init_0 rfl (lv_at hl 0 rfl) ?_
  refine lv_aload_n hx hb dX6_init_1 rfl (lv_at hl 1 rfl) ?_
  refine r_putF (C := RX6) (T := TX6) (N := 2) (ty := (.object "LeftGloves")) hx hb hts in_X6 hap hown hK hI hS (hc) rfl 1 (by decide) (hts _ q318) (fun _ h => h) rfl hin rfl (by decide +kernel) rfl rfl (Nat.le_of_ble_eq_true rfl) dX6_init_2 (fun H1 locs1 hI hS => ?_)
  refine lv_aload_n hx hb dX6_init_5 rfl (lv_at hl 0 rfl) ?_
  refine W.objInit hx hb hown (hts _ q312) (hts _ q121) (hts _ q122) rfl (by rw [hml]; exact hl.1) rfl dX6_init_6 (Nat.le_of_ble_eq_true rfl) (Nat.le_of_ble_eq_true rfl) ?_
  refine W.eq (g2 := F0 m 9 ls []) rfl ?_
  refine lv_aload_n hx hb dX6_init_9 rfl (lv_at hl 0 rfl) ?_
  refine lv_iload_n hx hb dX6_init_10 rfl (lv_at hl 2 rfl) ?_
  refine r_putF (C := RX6) (T := TX6) (N := 2) (ty := .int) hx hb hts in_X6 hap hown hK hI hS (cadd_at _ _ _) rfl 0 (by decide) (hts _ q314) (fun _ h => h) rfl hin rfl (by decide +kernel) rfl rfl (Nat.le_of_ble_eq_true rfl) dX6_init_11 (fun H1 locs1 hI hS => ?_)
  simp only [cadd_two] at hI
  exact W.vret hx hb hr (fun t ht _ => ⟨rfl, by rw [ht]; exact hI, hS.F ht⟩) hS.2.2 dX6_init_14
theorem n_X6_init_1 {l : Launch} {D : va_G} {A : Nat → Prop} {z : Value × Value} {cf : cmap} {i0 h0 mm : Nat} {v0 n : Int32} {r1 r2 r3 r4 : Value} (hc : cf i0 = some (h0, .inr (7, [.int v0, r1, r2, r3, r4]))) : Met l yX6_init (ws_ yX6_init cX6_init 3 none) ({ frames := 1, cells := 0, slots := 0, locals := 12 } : Room) (va_Pc [.ref h0, .ref mm, .int n] (pN D cf A z)) (nQ D (cadd cf i0 (h0, .inr (7, [.int n, .ref mm, r2, r3, r4]))) A none) 0 0 A := by
  refine met_N (by decide) rfl (Nat.le_of_ble_eq_true rfl) ?_
  intro p e s m below meth c ls hx hb hr hml hown hts hlocks hl hI hK hX hin
  have F : CallFix p m c cX6_init 3 s _ lw_all RX6 := ⟨hx, hb, hml, hown, hts⟩
  have hl : lv_has ls 3 [(0, .ref h0), (1, .ref mm), (2, .int n)] := hl
  have hS : va_S A s.heap s.heap [] := va_S.rf
  have hap := r_apart (ci := 7) hts in_X7 tyX7 tyX7_ok apX_1 hK rfl
  refine lv_aload_n hx hb dX6_init_0 rfl (lv_at hl 0 rfl) ?_
  refine lv_aload_n hx hb dX6_init_1 rfl (lv_at hl 1 rfl) ?_
  refine r_putF (C := RX7) (T := TX7) (N := 3) (ty := (.object "LeftGloves")) hx hb hts in_X7 hap hown hK hI hS (hc) rfl 1 (by decide) (hts _ q318) (fun _ h => h) rfl hin rfl (by decide +kernel) rfl rfl (Nat.le_of_ble_eq_true rfl) dX6_init_2 (fun H1 locs1 hI hS => ?_)
  refine lv_aload_n hx hb dX6_init_5 rfl (lv_at hl 0 rfl) ?_
  refine W.objInit hx hb hown (hts _ q312) (hts _ q121) (hts _ q122) rfl (by rw [hml]; exact hl.1) rfl dX6_init_6 (Nat.le_of_ble_eq_true rfl) (Nat.le_of_ble_eq_true rfl) ?_
  refine W.eq (g2 := F0 m 9 ls []) rfl ?_
  refine lv_aload_n hx hb dX6_init_9 rfl (lv_at hl 0 rfl) ?_
  refine lv_iload_n hx hb dX6_init_10 rfl (lv_at hl 2 rfl) ?_
  refine r_putF (C := RX7) (T := TX7) (N := 3) (ty := .int) hx hb hts in_X7 hap hown hK hI hS (cadd_at _ _ _) rfl 0 (by decide) (hts _ q314) (fun _ h => h) rfl hin rfl (by decide +kernel) rfl rfl (Nat.le_of_ble_eq_true rfl) dX6_init_11 (fun H1 locs1 hI hS => ?_)
  simp only [cadd_two] at hI
  exact W.vret hx hb hr (fun t ht _ => ⟨rfl, by rw [ht]; exact hI, hS.F ht⟩) hS.2.2 dX6_init_14
theorem n_X7_init_1 {l : Launch} {D : va_G} {A : Nat → Prop} {z : Value × Value} {cf : cmap} {i0 h0 mm : Nat} {v0 n : Int32} {r1 r2 r3 r4 : Value} (hc : cf i0 = some (h0, .inr (7, [.int v0, r1, r2, r3, r4]))) : Met l yX7_init (ws_ yX7_init cX7_init 3 none) ({ frames := 2, cells := 0, slots := 0, locals := 34 } : Room) (va_Pc [.ref h0, .ref mm, .int n] (pN D cf A z)) (nQ D (cadd cf i0 (h0, .inr (7, [.int n, .ref mm, .ref mm, r3, r4]))) A none) 0 0 A := by
  refine met_N (by decide) rfl (Nat.le_of_ble_eq_true rfl) ?_
  intro p e s m below meth c ls hx hb hr hml hown hts hlocks hl hI hK hX hin
  have F : CallFix p m c cX7_init 3 s _ lw_all RX7 := ⟨hx, hb, hml, hown, hts⟩
  have hl : lv_has ls 3 [(0, .ref h0), (1, .ref mm), (2, .int n)] := hl
  have hS : va_S A s.heap s.heap [] := va_S.rf
  have hap := r_apart (ci := 7) hts in_X7 tyX7 tyX7_ok apX_1 hK rfl
  refine lv_aload_n hx hb dX7_init_0 rfl (lv_at hl 0 rfl) ?_
  refine lv_aload_n hx hb dX7_init_1 rfl (lv_at hl 1 rfl) ?_
  refine r_putF (C := RX7) (T := TX7) (N := 3) (ty := (.object "LeftGloves")) hx hb hts in_X7 hap hown hK hI hS (hc) rfl 2 (by decide) (hts _ q313) (fun _ h => h) rfl hin rfl (by decide +kernel) rfl rfl (Nat.le_of_ble_eq_true rfl) dX7_init_2 (fun H1 locs1 hI hS => ?_)
  refine lv_aload_n hx hb dX7_init_5 rfl (lv_at hl 0 rfl) ?_
  refine lv_aload_n hx hb dX7_init_6 rfl (lv_at hl 1 rfl) ?_
  refine lv_iload_n hx hb dX7_init_7 rfl (lv_at hl 2 rfl) ?_
  refine c_m (k_I (As := [.ref mm, .int n]) (rest := []) F (n_X6_init_1 (n := n) (mm := mm) (cadd_at _ _ _)) (cwI 2 hts (lw_meth q311) rfl rfl rfl (hts _ q100) (hts _ q309) (hts _ q310) rfl (by decide +kernel) ⟨Nat.le_of_ble_eq_true rfl, Nat.le_of_ble_eq_true rfl⟩) hI hK hX hS rfl hl.1 rfl (Nat.le_of_ble_eq_true rfl) dX7_init_8 ⟨Nat.le_of_ble_eq_true rfl, Nat.le_of_ble_eq_true rfl⟩) hS (fun H1 locs1 hI hS => ?_)
  simp only [cadd_two] at hI
  exact W.vret hx hb hr (fun t ht _ => ⟨rfl, by rw [ht]; exact hI, hS.F ht⟩) hS.2.2 dX7_init_11
theorem n_X6_init_2 {l : Launch} {D : va_G} {A : Nat → Prop} {z : Value × Value} {cf : cmap} {i0 h0 mm : Nat} {v0 n : Int32} {r1 r2 r3 r4 : Value} (hc : cf i0 = some (h0, .inr (8, [.int v0, r1, r2, r3, r4]))) : Met l yX6_init (ws_ yX6_init cX6_init 3 none) ({ frames := 1, cells := 0, slots := 0, locals := 12 } : Room) (va_Pc [.ref h0, .ref mm, .int n] (pN D cf A z)) (nQ D (cadd cf i0 (h0, .inr (8, [.int n, .ref mm, r2, r3, r4]))) A none) 0 0 A := by
  refine met_N (by decide) rfl (Nat.le_of_ble_eq_true rfl) ?_
  intro p e s m below meth c ls hx hb hr hml hown hts hlocks hl hI hK hX hin
  have F : CallFix p m c cX6_init 3 s _ lw_all RX6 := ⟨hx, hb, hml, hown, hts⟩
  have hl : lv_has ls 3 [(0, .ref h0), (1, .ref mm), (2, .int n)] := hl
  have hS : va_S A s.heap s.heap [] := va_S.rf
  have hap := r_apart (ci := 8) hts in_X8 tyX8 tyX8_ok apX_2 hK rfl
  refine lv_aload_n hx hb dX6_init_0 rfl (lv_at hl 0 rfl) ?_
  refine lv_aload_n hx hb dX6_init_1 rfl (lv_at hl 1 rfl) ?_
  refine r_putF (C := RX8) (T := TX8) (N := 3) (ty := (.object "LeftGloves")) hx hb hts in_X8 hap hown hK hI hS (hc) rfl 1 (by decide) (hts _ q318) (fun _ h => h) rfl hin rfl (by decide +kernel) rfl rfl (Nat.le_of_ble_eq_true rfl) dX6_init_2 (fun H1 locs1 hI hS => ?_)
  refine lv_aload_n hx hb dX6_init_5 rfl (lv_at hl 0 rfl) ?_
  refine W.objInit hx hb hown (hts _ q312) (hts _ q121) (hts _ q122) rfl (by rw [hml]; exact hl.1) rfl dX6_init_6 (Nat.le_of_ble_eq_true rfl) (Nat.le_of_ble_eq_true rfl) ?_
  refine W.eq (g2 := F0 m 9 ls []) rfl ?_
  refine lv_aload_n hx hb dX6_init_9 rfl (lv_at hl 0 rfl) ?_
  refine lv_iload_n hx hb dX6_init_10 rfl (lv_at hl 2 rfl) ?_
  refine r_putF (C := RX8) (T := TX8) (N := 3) (ty := .int) hx hb hts in_X8 hap hown hK hI hS (cadd_at _ _ _) rfl 0 (by decide) (hts _ q314) (fun _ h => h) rfl hin rfl (by decide +kernel) rfl rfl (Nat.le_of_ble_eq_true rfl) dX6_init_11 (fun H1 locs1 hI hS => ?_)
  simp only [cadd_two] at hI
  exact W.vret hx hb hr (fun t ht _ => ⟨rfl, by rw [ht]; exact hI, hS.F ht⟩) hS.2.2 dX6_init_14
theorem n_X8_init_2 {l : Launch} {D : va_G} {A : Nat → Prop} {z : Value × Value} {cf : cmap} {i0 h0 mm : Nat} {v0 n : Int32} {r1 r2 r3 r4 : Value} (hc : cf i0 = some (h0, .inr (8, [.int v0, r1, r2, r3, r4]))) : Met l yX8_init (ws_ yX8_init cX8_init 3 none) ({ frames := 2, cells := 0, slots := 0, locals := 34 } : Room) (va_Pc [.ref h0, .ref mm, .int n] (pN D cf A z)) (nQ D (cadd cf i0 (h0, .inr (8, [.int n, .ref mm, .ref mm, r3, r4]))) A none) 0 0 A := by
  refine met_N (by decide) rfl (Nat.le_of_ble_eq_true rfl) ?_
  intro p e s m below meth c ls hx hb hr hml hown hts hlocks hl hI hK hX hin
  have F : CallFix p m c cX8_init 3 s _ lw_all RX8 := ⟨hx, hb, hml, hown, hts⟩
  have hl : lv_has ls 3 [(0, .ref h0), (1, .ref mm), (2, .int n)] := hl
  have hS : va_S A s.heap s.heap [] := va_S.rf
  have hap := r_apart (ci := 8) hts in_X8 tyX8 tyX8_ok apX_2 hK rfl
  refine lv_aload_n hx hb dX8_init_0 rfl (lv_at hl 0 rfl) ?_
  refine lv_aload_n hx hb dX8_init_1 rfl (lv_at hl 1 rfl) ?_
  refine r_putF (C := RX8) (T := TX8) (N := 3) (ty := (.object "LeftGloves")) hx hb hts in_X8 hap hown hK hI hS (hc) rfl 2 (by decide) (hts _ q332) (fun _ h => h) rfl hin rfl (by decide +kernel) rfl rfl (Nat.le_of_ble_eq_true rfl) dX8_init_2 (fun H1 locs1 hI hS => ?_)
  refine lv_aload_n hx hb dX8_init_5 rfl (lv_at hl 0 rfl) ?_
  refine lv_aload_n hx hb dX8_init_6 rfl (lv_at hl 1 rfl) ?_
  refine lv_iload_n hx hb dX8_init_7 rfl (lv_at hl 2 rfl) ?_
  refine c_m (k_I (As := [.ref mm, .int n]) (rest := []) F (n_X6_init_2 (n := n) (mm := mm) (cadd_at _ _ _)) (cwI 2 hts (lw_meth q311) rfl rfl rfl (hts _ q100) (hts _ q331) (hts _ q310) rfl (by decide +kernel) ⟨Nat.le_of_ble_eq_true rfl, Nat.le_of_ble_eq_true rfl⟩) hI hK hX hS rfl hl.1 rfl (Nat.le_of_ble_eq_true rfl) dX8_init_8 ⟨Nat.le_of_ble_eq_true rfl, Nat.le_of_ble_eq_true rfl⟩) hS (fun H1 locs1 hI hS => ?_)
  simp only [cadd_two] at hI
  exact W.vret hx hb hr (fun t ht _ => ⟨rfl, by rw [ht]; exact hI, hS.F ht⟩) hS.2.2 dX8_init_11
theorem n_X6_init_3 {l : Launch} {D : va_G} {A : Nat → Prop} {z : Value × Value} {cf : cmap} {i0 h0 mm : Nat} {v0 n : Int32} {r1 r2 r3 r4 : Value} (hc : cf i0 = some (h0, .inr (9, [.int v0, r1, r2, r3, r4]))) : Met l yX6_init (ws_ yX6_init cX6_init 3 none) ({ frames := 1, cells := 0, slots := 0, locals := 12 } : Room) (va_Pc [.ref h0, .ref mm, .int n] (pN D cf A z)) (nQ D (cadd cf i0 (h0, .inr (9, [.int n, .ref mm, r2, r3, r4]))) A none) 0 0 A := by
  refine met_N (by decide) rfl (Nat.le_of_ble_eq_true rfl) ?_
  intro p e s m below meth c ls hx hb hr hml hown hts hlocks hl hI hK hX hin
  have F : CallFix p m c cX6_init 3 s _ lw_all RX6 := ⟨hx, hb, hml, hown, hts⟩
  have hl : lv_has ls 3 [(0, .ref h0), (1, .ref mm), (2, .int n)] := hl
  have hS : va_S A s.heap s.heap [] := va_S.rf
  have hap := r_apart (ci := 9) hts in_X9 tyX9 tyX9_ok apX_3 hK rfl
  refine lv_aload_n hx hb dX6_init_0 rfl (lv_at hl 0 rfl) ?_
  refine lv_aload_n hx hb dX6_init_1 rfl (lv_at hl 1 rfl) ?_
  refine r_putF (C := RX9) (T := TX9) (N := 4) (ty := (.object "LeftGloves")) hx hb hts in_X9 hap hown hK hI hS (hc) rfl 1 (by decide) (hts _ q318) (fun _ h => h) rfl hin rfl (by decide +kernel) rfl rfl (Nat.le_of_ble_eq_true rfl) dX6_init_2 (fun H1 locs1 hI hS => ?_)
  refine lv_aload_n hx hb dX6_init_5 rfl (lv_at hl 0 rfl) ?_
  refine W.objInit hx hb hown (hts _ q312) (hts _ q121) (hts _ q122) rfl (by rw [hml]; exact hl.1) rfl dX6_init_6 (Nat.le_of_ble_eq_true rfl) (Nat.le_of_ble_eq_true rfl) ?_
  refine W.eq (g2 := F0 m 9 ls []) rfl ?_
  refine lv_aload_n hx hb dX6_init_9 rfl (lv_at hl 0 rfl) ?_
  refine lv_iload_n hx hb dX6_init_10 rfl (lv_at hl 2 rfl) ?_
  refine r_putF (C := RX9) (T := TX9) (N := 4) (ty := .int) hx hb hts in_X9 hap hown hK hI hS (cadd_at _ _ _) rfl 0 (by decide) (hts _ q314) (fun _ h => h) rfl hin rfl (by decide +kernel) rfl rfl (Nat.le_of_ble_eq_true rfl) dX6_init_11 (fun H1 locs1 hI hS => ?_)
  simp only [cadd_two] at hI
  exact W.vret hx hb hr (fun t ht _ => ⟨rfl, by rw [ht]; exact hI, hS.F ht⟩) hS.2.2 dX6_init_14
theorem n_X8_init_3 {l : Launch} {D : va_G} {A : Nat → Prop} {z : Value × Value} {cf : cmap} {i0 h0 mm : Nat} {v0 n : Int32} {r1 r2 r3 r4 : Value} (hc : cf i0 = some (h0, .inr (9, [.int v0, r1, r2, r3, r4]))) : Met l yX8_init (ws_ yX8_init cX8_init 3 none) ({ frames := 2, cells := 0, slots := 0, locals := 34 } : Room) (va_Pc [.ref h0, .ref mm, .int n] (pN D cf A z)) (nQ D (cadd cf i0 (h0, .inr (9, [.int n, .ref mm, .ref mm, r3, r4]))) A none) 0 0 A := by
  refine met_N (by decide) rfl (Nat.le_of_ble_eq_true rfl) ?_
  intro p e s m below meth c ls hx hb hr hml hown hts hlocks hl hI hK hX hin
  have F : CallFix p m c cX8_init 3 s _ lw_all RX8 := ⟨hx, hb, hml, hown, hts⟩
  have hl : lv_has ls 3 [(0, .ref h0), (1, .ref mm), (2, .int n)] := hl
  have hS : va_S A s.heap s.heap [] := va_S.rf
  have hap := r_apart (ci := 9) hts in_X9 tyX9 tyX9_ok apX_3 hK rfl
  refine lv_aload_n hx hb dX8_init_0 rfl (lv_at hl 0 rfl) ?_
  refine lv_aload_n hx hb dX8_init_1 rfl (lv_at hl 1 rfl) ?_
  refine r_putF (C := RX9) (T := TX9) (N := 4) (ty := (.object "LeftGloves")) hx hb hts in_X9 hap hown hK hI hS (hc) rfl 2 (by decide) (hts _ q332) (fun _ h => h) rfl hin rfl (by decide +kernel) rfl rfl (Nat.le_of_ble_eq_true rfl) dX8_init_2 (fun H1 locs1 hI hS => ?_)
  refine lv_aload_n hx hb dX8_init_5 rfl (lv_at hl 0 rfl) ?_
  refine lv_aload_n hx hb dX8_init_6 rfl (lv_at hl 1 rfl) ?_
  refine lv_iload_n hx hb dX8_init_7 rfl (lv_at hl 2 rfl) ?_
  refine c_m (k_I (As := [.ref mm, .int n]) (rest := []) F (n_X6_init_3 (n := n) (mm := mm) (cadd_at _ _ _)) (cwI 2 hts (lw_meth q311) rfl rfl rfl (hts _ q100) (hts _ q331) (hts _ q310) rfl (by decide +kernel) ⟨Nat.le_of_ble_eq_true rfl, Nat.le_of_ble_eq_true rfl⟩) hI hK hX hS rfl hl.1 rfl (Nat.le_of_ble_eq_true rfl) dX8_init_8 ⟨Nat.le_of_ble_eq_true rfl, Nat.le_of_ble_eq_true rfl⟩) hS (fun H1 locs1 hI hS => ?_)
  simp only [cadd_two] at hI
  exact W.vret hx hb hr (fun t ht _ => ⟨rfl, by rw [ht]; exact hI, hS.F ht⟩) hS.2.2 dX8_init_11
theorem n_X9_init_3 {l : Launch} {D : va_G} {A : Nat → Prop} {z : Value × Value} {cf : cmap} {i0 h0 mm : Nat} {v0 n : Int32} {r1 r2 r3 r4 : Value} (hc : cf i0 = some (h0, .inr (9, [.int v0, r1, r2, r3, r4]))) : Met l yX9_init (ws_ yX9_init cX9_init 3 none) ({ frames := 3, cells := 0, slots := 0, locals := 56 } : Room) (va_Pc [.ref h0, .ref mm, .int n] (pN D cf A z)) (nQ D (cadd cf i0 (h0, .inr (9, [.int n, .ref mm, .ref mm, .ref mm, r4]))) A none) 0 0 A := by
  refine met_N (by decide) rfl (Nat.le_of_ble_eq_true rfl) ?_
  intro p e s m below meth c ls hx hb hr hml hown hts hlocks hl hI hK hX hin
  have F : CallFix p m c cX9_init 3 s _ lw_all RX9 := ⟨hx, hb, hml, hown, hts⟩
  have hl : lv_has ls 3 [(0, .ref h0), (1, .ref mm), (2, .int n)] := hl
  have hS : va_S A s.heap s.heap [] := va_S.rf
  have hap := r_apart (ci := 9) hts in_X9 tyX9 tyX9_ok apX_3 hK rfl
  refine lv_aload_n hx hb dX9_init_0 rfl (lv_at hl 0 rfl) ?_
  refine lv_aload_n hx hb dX9_init_1 rfl (lv_at hl 1 rfl) ?_
  refine r_putF (C := RX9) (T := TX9) (N := 4) (ty := (.object "LeftGloves")) hx hb hts in_X9 hap hown hK hI hS (hc) rfl 3 (by decide) (hts _ q344) (fun _ h => h) rfl hin rfl (by decide +kernel) rfl rfl (Nat.le_of_ble_eq_true rfl) dX9_init_2 (fun H1 locs1 hI hS => ?_)
  refine lv_aload_n hx hb dX9_init_5 rfl (lv_at hl 0 rfl) ?_
  refine lv_aload_n hx hb dX9_init_6 rfl (lv_at hl 1 rfl) ?_
  refine lv_iload_n hx hb dX9_init_7 rfl (lv_at hl 2 rfl) ?_
  refine c_m (k_I (As := [.ref mm, .int n]) (rest := []) F (n_X8_init_3 (n := n) (mm := mm) (cadd_at _ _ _)) (cwI 2 hts (lw_meth q330) rfl rfl rfl (hts _ q102) (hts _ q343) (hts _ q329) rfl (by decide +kernel) ⟨Nat.le_of_ble_eq_true rfl, Nat.le_of_ble_eq_true rfl⟩) hI hK hX hS rfl hl.1 rfl (Nat.le_of_ble_eq_true rfl) dX9_init_8 ⟨Nat.le_of_ble_eq_true rfl, Nat.le_of_ble_eq_true rfl⟩) hS (fun H1 locs1 hI hS => ?_)
  simp only [cadd_two] at hI
  exact W.vret hx hb hr (fun t ht _ => ⟨rfl, by rw [ht]; exact hI, hS.F ht⟩) hS.2.2 dX9_init_11
theorem n_X6_init_4 {l : Launch} {D : va_G} {A : Nat → Prop} {z : Value × Value} {cf : cmap} {i0 h0 mm : Nat} {v0 n : Int32} {r1 r2 r3 r4 : Value} (hc : cf i0 = some (h0, .inr (10, [.int v0, r1, r2, r3, r4]))) : Met l yX6_init (ws_ yX6_init cX6_init 3 none) ({ frames := 1, cells := 0, slots := 0, locals := 12 } : Room) (va_Pc [.ref h0, .ref mm, .int n] (pN D cf A z)) (nQ D (cadd cf i0 (h0, .inr (10, [.int n, .ref mm, r2, r3, r4]))) A none) 0 0 A := by
  refine met_N (by decide) rfl (Nat.le_of_ble_eq_true rfl) ?_
  intro p e s m below meth c ls hx hb hr hml hown hts hlocks hl hI hK hX hin
  have F : CallFix p m c cX6_init 3 s _ lw_all RX6 := ⟨hx, hb, hml, hown, hts⟩
  have hl : lv_has ls 3 [(0, .ref h0), (1, .ref mm), (2, .int n)] := hl
  have hS : va_S A s.heap s.heap [] := va_S.rf
  have hap := r_apart (ci := 10) hts in_X10 tyX10 tyX10_ok apX_4 hK rfl
  refine lv_aload_n hx hb dX6_init_0 rfl (lv_at hl 0 rfl) ?_
  refine lv_aload_n hx hb dX6_init_1 rfl (lv_at hl 1 rfl) ?_
  refine r_putF (C := RX10) (T := TX10) (N := 5) (ty := (.object "LeftGloves")) hx hb hts in_X10 hap hown hK hI hS (hc) rfl 1 (by decide) (hts _ q318) (fun _ h => h) rfl hin rfl (by decide +kernel) rfl rfl (Nat.le_of_ble_eq_true rfl) dX6_init_2 (fun H1 locs1 hI hS => ?_)
  refine lv_aload_n hx hb dX6_init_5 rfl (lv_at hl 0 rfl) ?_
  refine W.objInit hx hb hown (hts _ q312) (hts _ q121) (hts _ q122) rfl (by rw [hml]; exact hl.1) rfl dX6_init_6 (Nat.le_of_ble_eq_true rfl) (Nat.le_of_ble_eq_true rfl) ?_
  refine W.eq (g2 := F0 m 9 ls []) rfl ?_
  refine lv_aload_n hx hb dX6_init_9 rfl (lv_at hl 0 rfl) ?_
  refine lv_iload_n hx hb dX6_init_10 rfl (lv_at hl 2 rfl) ?_
  refine r_putF (C := RX10) (T := TX10) (N := 5) (ty := .int) hx hb hts in_X10 hap hown hK hI hS (cadd_at _ _ _) rfl 0 (by decide) (hts _ q314) (fun _ h => h) rfl hin rfl (by decide +kernel) rfl rfl (Nat.le_of_ble_eq_true rfl) dX6_init_11 (fun H1 locs1 hI hS => ?_)
  simp only [cadd_two] at hI
  exact W.vret hx hb hr (fun t ht _ => ⟨rfl, by rw [ht]; exact hI, hS.F ht⟩) hS.2.2 dX6_init_14
theorem n_X8_init_4 {l : Launch} {D : va_G} {A : Nat → Prop} {z : Value × Value} {cf : cmap} {i0 h0 mm : Nat} {v0 n : Int32} {r1 r2 r3 r4 : Value} (hc : cf i0 = some (h0, .inr (10, [.int v0, r1, r2, r3, r4]))) : Met l yX8_init (ws_ yX8_init cX8_init 3 none) ({ frames := 2, cells := 0, slots := 0, locals := 34 } : Room) (va_Pc [.ref h0, .ref mm, .int n] (pN D cf A z)) (nQ D (cadd cf i0 (h0, .inr (10, [.int n, .ref mm, .ref mm, r3, r4]))) A none) 0 0 A := by
  refine met_N (by decide) rfl (Nat.le_of_ble_eq_true rfl) ?_
  intro p e s m below meth c ls hx hb hr hml hown hts hlocks hl hI hK hX hin
  have F : CallFix p m c cX8_init 3 s _ lw_all RX8 := ⟨hx, hb, hml, hown, hts⟩
  have hl : lv_has ls 3 [(0, .ref h0), (1, .ref mm), (2, .int n)] := hl
  have hS : va_S A s.heap s.heap [] := va_S.rf
  have hap := r_apart (ci := 10) hts in_X10 tyX10 tyX10_ok apX_4 hK rfl
  refine lv_aload_n hx hb dX8_init_0 rfl (lv_at hl 0 rfl) ?_
  refine lv_aload_n hx hb dX8_init_1 rfl (lv_at hl 1 rfl) ?_
  refine r_putF (C := RX10) (T := TX10) (N := 5) (ty := (.object "LeftGloves")) hx hb hts in_X10 hap hown hK hI hS (hc) rfl 2 (by decide) (hts _ q332) (fun _ h => h) rfl hin rfl (by decide +kernel) rfl rfl (Nat.le_of_ble_eq_true rfl) dX8_init_2 (fun H1 locs1 hI hS => ?_)
  refine lv_aload_n hx hb dX8_init_5 rfl (lv_at hl 0 rfl) ?_
  refine lv_aload_n hx hb dX8_init_6 rfl (lv_at hl 1 rfl) ?_
  refine lv_iload_n hx hb dX8_init_7 rfl (lv_at hl 2 rfl) ?_
  refine c_m (k_I (As := [.ref mm, .int n]) (rest := []) F (n_X6_init_4 (n := n) (mm := mm) (cadd_at _ _ _)) (cwI 2 hts (lw_meth q311) rfl rfl rfl (hts _ q100) (hts _ q331) (hts _ q310) rfl (by decide +kernel) ⟨Nat.le_of_ble_eq_true rfl, Nat.le_of_ble_eq_true rfl⟩) hI hK hX hS rfl hl.1 rfl (Nat.le_of_ble_eq_true rfl) dX8_init_8 ⟨Nat.le_of_ble_eq_true rfl, Nat.le_of_ble_eq_true rfl⟩) hS (fun H1 locs1 hI hS => ?_)
  simp only [cadd_two] at hI
  exact W.vret hx hb hr (fun t ht _ => ⟨rfl, by rw [ht]; exact hI, hS.F ht⟩) hS.2.2 dX8_init_11
theorem n_X9_init_4 {l : Launch} {D : va_G} {A : Nat → Prop} {z : Value × Value} {cf : cmap} {i0 h0 mm : Nat} {v0 n : Int32} {r1 r2 r3 r4 : Value} (hc : cf i0 = some (h0, .inr (10, [.int v0, r1, r2, r3, r4]))) : Met l yX9_init (ws_ yX9_init cX9_init 3 none) ({ frames := 3, cells := 0, slots := 0, locals := 56 } : Room) (va_Pc [.ref h0, .ref mm, .int n] (pN D cf A z)) (nQ D (cadd cf i0 (h0, .inr (10, [.int n, .ref mm, .ref mm, .ref mm, r4]))) A none) 0 0 A := by
  refine met_N (by decide) rfl (Nat.le_of_ble_eq_true rfl) ?_
  intro p e s m below meth c ls hx hb hr hml hown hts hlocks hl hI hK hX hin
  have F : CallFix p m c cX9_init 3 s _ lw_all RX9 := ⟨hx, hb, hml, hown, hts⟩
  have hl : lv_has ls 3 [(0, .ref h0), (1, .ref mm), (2, .int n)] := hl
  have hS : va_S A s.heap s.heap [] := va_S.rf
  have hap := r_apart (ci := 10) hts in_X10 tyX10 tyX10_ok apX_4 hK rfl
  refine lv_aload_n hx hb dX9_init_0 rfl (lv_at hl 0 rfl) ?_
  refine lv_aload_n hx hb dX9_init_1 rfl (lv_at hl 1 rfl) ?_
  refine r_putF (C := RX10) (T := TX10) (N := 5) (ty := (.object "LeftGloves")) hx hb hts in_X10 hap hown hK hI hS (hc) rfl 3 (by decide) (hts _ q344) (fun _ h => h) rfl hin rfl (by decide +kernel) rfl rfl (Nat.le_of_ble_eq_true rfl) dX9_init_2 (fun H1 locs1 hI hS => ?_)
  refine lv_aload_n hx hb dX9_init_5 rfl (lv_at hl 0 rfl) ?_
  refine lv_aload_n hx hb dX9_init_6 rfl (lv_at hl 1 rfl) ?_
  refine lv_iload_n hx hb dX9_init_7 rfl (lv_at hl 2 rfl) ?_
  refine c_m (k_I (As := [.ref mm, .int n]) (rest := []) F (n_X8_init_4 (n := n) (mm := mm) (cadd_at _ _ _)) (cwI 2 hts (lw_meth q330) rfl rfl rfl (hts _ q102) (hts _ q343) (hts _ q329) rfl (by decide +kernel) ⟨Nat.le_of_ble_eq_true rfl, Nat.le_of_ble_eq_true rfl⟩) hI hK hX hS rfl hl.1 rfl (Nat.le_of_ble_eq_true rfl) dX9_init_8 ⟨Nat.le_of_ble_eq_true rfl, Nat.le_of_ble_eq_true rfl⟩) hS (fun H1 locs1 hI hS => ?_)
  simp only [cadd_two] at hI
  exact W.vret hx hb hr (fun t ht _ => ⟨rfl, by rw [ht]; exact hI, hS.F ht⟩) hS.2.2 dX9_init_11
theorem n_X10_init_4 {l : Launch} {D : va_G} {A : Nat → Prop} {z : Value × Value} {cf : cmap} {i0 h0 mm : Nat} {v0 n : Int32} {r1 r2 r3 r4 : Value} (hc : cf i0 = some (h0, .inr (10, [.int v0, r1, r2, r3, r4]))) : Met l yX10_init (ws_ yX10_init cX10_init 3 none) ({ frames := 4, cells := 0, slots := 0, locals := 78 } : Room) (va_Pc [.ref h0, .ref mm, .int n] (pN D cf A z)) (nQ D (cadd cf i0 (h0, .inr (10, [.int n, .ref mm, .ref mm, .ref mm, .ref mm]))) A none) 0 0 A := by
  refine met_N (by decide) rfl (Nat.le_of_ble_eq_true rfl) ?_
  intro p e s m below meth c ls hx hb hr hml hown hts hlocks hl hI hK hX hin
  have F : CallFix p m c cX10_init 3 s _ lw_all RX10 := ⟨hx, hb, hml, hown, hts⟩
  have hl : lv_has ls 3 [(0, .ref h0), (1, .ref mm), (2, .int n)] := hl
  have hS : va_S A s.heap s.heap [] := va_S.rf
  have hap := r_apart (ci := 10) hts in_X10 tyX10 tyX10_ok apX_4 hK rfl
  refine lv_aload_n hx hb dX10_init_0 rfl (lv_at hl 0 rfl) ?_
  refine lv_aload_n hx hb dX10_init_1 rfl (lv_at hl 1 rfl) ?_
  refine r_putF (C := RX10) (T := TX10) (N := 5) (ty := (.object "LeftGloves")) hx hb hts in_X10 hap hown hK hI hS (hc) rfl 4 (by decide) (hts _ q357) (fun _ h => h) rfl hin rfl (by decide +kernel) rfl rfl (Nat.le_of_ble_eq_true rfl) dX10_init_2 (fun H1 locs1 hI hS => ?_)
  refine lv_aload_n hx hb dX10_init_5 rfl (lv_at hl 0 rfl) ?_
  refine lv_aload_n hx hb dX10_init_6 rfl (lv_at hl 1 rfl) ?_
  refine lv_iload_n hx hb dX10_init_7 rfl (lv_at hl 2 rfl) ?_
  refine c_m (k_I (As := [.ref mm, .int n]) (rest := []) F (n_X9_init_4 (n := n) (mm := mm) (cadd_at _ _ _)) (cwI 2 hts (lw_meth q342) rfl rfl rfl (hts _ q103) (hts _ q356) (hts _ q341) rfl (by decide +kernel) ⟨Nat.le_of_ble_eq_true rfl, Nat.le_of_ble_eq_true rfl⟩) hI hK hX hS rfl hl.1 rfl (Nat.le_of_ble_eq_true rfl) dX10_init_8 ⟨Nat.le_of_ble_eq_true rfl, Nat.le_of_ble_eq_true rfl⟩) hS (fun H1 locs1 hI hS => ?_)
  simp only [cadd_two] at hI
  exact W.vret hx hb hr (fun t ht _ => ⟨rfl, by rw [ht]; exact hI, hS.F ht⟩) hS.2.2 dX10_init_11
theorem n_X6_init_5 {l : Launch} {D : va_G} {A : Nat → Prop} {z : Value × Value} {cf : cmap} {i0 h0 mm : Nat} {v0 n : Int32} {r1 r2 r3 r4 : Value} (hc : cf i0 = some (h0, .inr (11, [.int v0, r1, r2, r3, r4]))) : Met l yX6_init (ws_ yX6_init cX6_init 3 none) ({ frames := 1, cells := 0, slots := 0, locals := 12 } : Room) (va_Pc [.ref h0, .ref mm, .int n] (pN D cf A z)) (nQ D (cadd cf i0 (h0, .inr (11, [.int n, .ref mm, r2, r3, r4]))) A none) 0 0 A := by
  refine met_N (by decide) rfl (Nat.le_of_ble_eq_true rfl) ?_
  intro p e s m below meth c ls hx hb hr hml hown hts hlocks hl hI hK hX hin
  have F : CallFix p m c cX6_init 3 s _ lw_all RX6 := ⟨hx, hb, hml, hown, hts⟩
  have hl : lv_has ls 3 [(0, .ref h0), (1, .ref mm), (2, .int n)] := hl
  have hS : va_S A s.heap s.heap [] := va_S.rf
  have hap := r_apart (ci := 11) hts in_X11 tyX11 tyX11_ok apX_5 hK rfl
  refine lv_aload_n hx hb dX6_init_0 rfl (lv_at hl 0 rfl) ?_
  refine lv_aload_n hx hb dX6_init_1 rfl (lv_at hl 1 rfl) ?_
  refine r_putF (C := RX11) (T := TX11) (N := 3) (ty := (.object "LeftGloves")) hx hb hts in_X11 hap hown hK hI hS (hc) rfl 1 (by decide) (hts _ q318) (fun _ h => h) rfl hin rfl (by decide +kernel) rfl rfl (Nat.le_of_ble_eq_true rfl) dX6_init_2 (fun H1 locs1 hI hS => ?_)
  refine lv_aload_n hx hb dX6_init_5 rfl (lv_at hl 0 rfl) ?_
  refine W.objInit hx hb hown (hts _ q312) (hts _ q121) (hts _ q122) rfl (by rw [hml]; exact hl.1) rfl dX6_init_6 (Nat.le_of_ble_eq_true rfl) (Nat.le_of_ble_eq_true rfl) ?_
  refine W.eq (g2 := F0 m 9 ls []) rfl ?_
  refine lv_aload_n hx hb dX6_init_9 rfl (lv_at hl 0 rfl) ?_
  refine lv_iload_n hx hb dX6_init_10 rfl (lv_at hl 2 rfl) ?_
  refine r_putF (C := RX11) (T := TX11) (N := 3) (ty := .int) hx hb hts in_X11 hap hown hK hI hS (cadd_at _ _ _) rfl 0 (by decide) (hts _ q314) (fun _ h => h) rfl hin rfl (by decide +kernel) rfl rfl (Nat.le_of_ble_eq_true rfl) dX6_init_11 (fun H1 locs1 hI hS => ?_)
  simp only [cadd_two] at hI
  exact W.vret hx hb hr (fun t ht _ => ⟨rfl, by rw [ht]; exact hI, hS.F ht⟩) hS.2.2 dX6_init_14
theorem n_X11_init_5 {l : Launch} {D : va_G} {A : Nat → Prop} {z : Value × Value} {cf : cmap} {i0 h0 mm : Nat} {v0 n : Int32} {r1 r2 r3 r4 : Value} (hc : cf i0 = some (h0, .inr (11, [.int v0, r1, r2, r3, r4]))) : Met l yX11_init (ws_ yX11_init cX11_init 3 none) ({ frames := 2, cells := 0, slots := 0, locals := 34 } : Room) (va_Pc [.ref h0, .ref mm, .int n] (pN D cf A z)) (nQ D (cadd cf i0 (h0, .inr (11, [.int n, .ref mm, .ref mm, r3, r4]))) A none) 0 0 A := by
  refine met_N (by decide) rfl (Nat.le_of_ble_eq_true rfl) ?_
  intro p e s m below meth c ls hx hb hr hml hown hts hlocks hl hI hK hX hin
  have F : CallFix p m c cX11_init 3 s _ lw_all RX11 := ⟨hx, hb, hml, hown, hts⟩
  have hl : lv_has ls 3 [(0, .ref h0), (1, .ref mm), (2, .int n)] := hl
  have hS : va_S A s.heap s.heap [] := va_S.rf
  have hap := r_apart (ci := 11) hts in_X11 tyX11 tyX11_ok apX_5 hK rfl
  refine lv_aload_n hx hb dX11_init_0 rfl (lv_at hl 0 rfl) ?_
  refine lv_aload_n hx hb dX11_init_1 rfl (lv_at hl 1 rfl) ?_
  refine r_putF (C := RX11) (T := TX11) (N := 3) (ty := (.object "LeftGloves")) hx hb hts in_X11 hap hown hK hI hS (hc) rfl 2 (by decide) (hts _ q371) (fun _ h => h) rfl hin rfl (by decide +kernel) rfl rfl (Nat.le_of_ble_eq_true rfl) dX11_init_2 (fun H1 locs1 hI hS => ?_)
  refine lv_aload_n hx hb dX11_init_5 rfl (lv_at hl 0 rfl) ?_
  refine lv_aload_n hx hb dX11_init_6 rfl (lv_at hl 1 rfl) ?_
  refine lv_iload_n hx hb dX11_init_7 rfl (lv_at hl 2 rfl) ?_
  refine c_m (k_I (As := [.ref mm, .int n]) (rest := []) F (n_X6_init_5 (n := n) (mm := mm) (cadd_at _ _ _)) (cwI 2 hts (lw_meth q311) rfl rfl rfl (hts _ q100) (hts _ q370) (hts _ q310) rfl (by decide +kernel) ⟨Nat.le_of_ble_eq_true rfl, Nat.le_of_ble_eq_true rfl⟩) hI hK hX hS rfl hl.1 rfl (Nat.le_of_ble_eq_true rfl) dX11_init_8 ⟨Nat.le_of_ble_eq_true rfl, Nat.le_of_ble_eq_true rfl⟩) hS (fun H1 locs1 hI hS => ?_)
  simp only [cadd_two] at hI
  exact W.vret hx hb hr (fun t ht _ => ⟨rfl, by rw [ht]; exact hI, hS.F ht⟩) hS.2.2 dX11_init_11
theorem n_X6_init_6 {l : Launch} {D : va_G} {A : Nat → Prop} {z : Value × Value} {cf : cmap} {i0 h0 mm : Nat} {v0 n : Int32} {r1 r2 r3 r4 : Value} (hc : cf i0 = some (h0, .inr (12, [.int v0, r1, r2, r3, r4]))) : Met l yX6_init (ws_ yX6_init cX6_init 3 none) ({ frames := 1, cells := 0, slots := 0, locals := 12 } : Room) (va_Pc [.ref h0, .ref mm, .int n] (pN D cf A z)) (nQ D (cadd cf i0 (h0, .inr (12, [.int n, .ref mm, r2, r3, r4]))) A none) 0 0 A := by
  refine met_N (by decide) rfl (Nat.le_of_ble_eq_true rfl) ?_
  intro p e s m below meth c ls hx hb hr hml hown hts hlocks hl hI hK hX hin
  have F : CallFix p m c cX6_init 3 s _ lw_all RX6 := ⟨hx, hb, hml, hown, hts⟩
  have hl : lv_has ls 3 [(0, .ref h0), (1, .ref mm), (2, .int n)] := hl
  have hS : va_S A s.heap s.heap [] := va_S.rf
  have hap := r_apart (ci := 12) hts in_X12 tyX12 tyX12_ok apX_6 hK rfl
  refine lv_aload_n hx hb dX6_init_0 rfl (lv_at hl 0 rfl) ?_
  refine lv_aload_n hx hb dX6_init_1 rfl (lv_at hl 1 rfl) ?_
  refine r_putF (C := RX12) (T := TX12) (N := 4) (ty := (.object "LeftGloves")) hx hb hts in_X12 hap hown hK hI hS (hc) rfl 1 (by decide) (hts _ q318) (fun _ h => h) rfl hin rfl (by decide +kernel) rfl rfl (Nat.le_of_ble_eq_true rfl) dX6_init_2 (fun H1 locs1 hI hS => ?_)
  refine lv_aload_n hx hb dX6_init_5 rfl (lv_at hl 0 rfl) ?_
  refine W.objInit hx hb hown (hts _ q312) (hts _ q121) (hts _ q122) rfl (by rw [hml]; exact hl.1) rfl dX6_init_6 (Nat.le_of_ble_eq_true rfl) (Nat.le_of_ble_eq_true rfl) ?_
  refine W.eq (g2 := F0 m 9 ls []) rfl ?_
  refine lv_aload_n hx hb dX6_init_9 rfl (lv_at hl 0 rfl) ?_
  refine lv_iload_n hx hb dX6_init_10 rfl (lv_at hl 2 rfl) ?_
  refine r_putF (C := RX12) (T := TX12) (N := 4) (ty := .int) hx hb hts in_X12 hap hown hK hI hS (cadd_at _ _ _) rfl 0 (by decide) (hts _ q314) (fun _ h => h) rfl hin rfl (by decide +kernel) rfl rfl (Nat.le_of_ble_eq_true rfl) dX6_init_11 (fun H1 locs1 hI hS => ?_)
  simp only [cadd_two] at hI
  exact W.vret hx hb hr (fun t ht _ => ⟨rfl, by rw [ht]; exact hI, hS.F ht⟩) hS.2.2 dX6_init_14
theorem n_X7_init_6 {l : Launch} {D : va_G} {A : Nat → Prop} {z : Value × Value} {cf : cmap} {i0 h0 mm : Nat} {v0 n : Int32} {r1 r2 r3 r4 : Value} (hc : cf i0 = some (h0, .inr (12, [.int v0, r1, r2, r3, r4]))) : Met l yX7_init (ws_ yX7_init cX7_init 3 none) ({ frames := 2, cells := 0, slots := 0, locals := 34 } : Room) (va_Pc [.ref h0, .ref mm, .int n] (pN D cf A z)) (nQ D (cadd cf i0 (h0, .inr (12, [.int n, .ref mm, .ref mm, r3, r4]))) A none) 0 0 A := by
  refine met_N (by decide) rfl (Nat.le_of_ble_eq_true rfl) ?_
  intro p e s m below meth c ls hx hb hr hml hown hts hlocks hl hI hK hX hin
  have F : CallFix p m c cX7_init 3 s _ lw_all RX7 := ⟨hx, hb, hml, hown, hts⟩
  have hl : lv_has ls 3 [(0, .ref h0), (1, .ref mm), (2, .int n)] := hl
  have hS : va_S A s.heap s.heap [] := va_S.rf
  have hap := r_apart (ci := 12) hts in_X12 tyX12 tyX12_ok apX_6 hK rfl
  refine lv_aload_n hx hb dX7_init_0 rfl (lv_at hl 0 rfl) ?_
  refine lv_aload_n hx hb dX7_init_1 rfl (lv_at hl 1 rfl) ?_
  refine r_putF (C := RX12) (T := TX12) (N := 4) (ty := (.object "LeftGloves")) hx hb hts in_X12 hap hown hK hI hS (hc) rfl 2 (by decide) (hts _ q313) (fun _ h => h) rfl hin rfl (by decide +kernel) rfl rfl (Nat.le_of_ble_eq_true rfl) dX7_init_2 (fun H1 locs1 hI hS => ?_)
  refine lv_aload_n hx hb dX7_init_5 rfl (lv_at hl 0 rfl) ?_
  refine lv_aload_n hx hb dX7_init_6 rfl (lv_at hl 1 rfl) ?_
  refine lv_iload_n hx hb dX7_init_7 rfl (lv_at hl 2 rfl) ?_
  refine c_m (k_I (As := [.ref mm, .int n]) (rest := []) F (n_X6_init_6 (n := n) (mm := mm) (cadd_at _ _ _)) (cwI 2 hts (lw_meth q311) rfl rfl rfl (hts _ q100) (hts _ q309) (hts _ q310) rfl (by decide +kernel) ⟨Nat.le_of_ble_eq_true rfl, Nat.le_of_ble_eq_true rfl⟩) hI hK hX hS rfl hl.1 rfl (Nat.le_of_ble_eq_true rfl) dX7_init_8 ⟨Nat.le_of_ble_eq_true rfl, Nat.le_of_ble_eq_true rfl⟩) hS (fun H1 locs1 hI hS => ?_)
  simp only [cadd_two] at hI
  exact W.vret hx hb hr (fun t ht _ => ⟨rfl, by rw [ht]; exact hI, hS.F ht⟩) hS.2.2 dX7_init_11
theorem n_X12_init_6 {l : Launch} {D : va_G} {A : Nat → Prop} {z : Value × Value} {cf : cmap} {i0 h0 mm : Nat} {v0 n : Int32} {r1 r2 r3 r4 : Value} (hc : cf i0 = some (h0, .inr (12, [.int v0, r1, r2, r3, r4]))) : Met l yX12_init (ws_ yX12_init cX12_init 3 none) ({ frames := 3, cells := 0, slots := 0, locals := 56 } : Room) (va_Pc [.ref h0, .ref mm, .int n] (pN D cf A z)) (nQ D (cadd cf i0 (h0, .inr (12, [.int n, .ref mm, .ref mm, .ref mm, r4]))) A none) 0 0 A := by
  refine met_N (by decide) rfl (Nat.le_of_ble_eq_true rfl) ?_
  intro p e s m below meth c ls hx hb hr hml hown hts hlocks hl hI hK hX hin
  have F : CallFix p m c cX12_init 3 s _ lw_all RX12 := ⟨hx, hb, hml, hown, hts⟩
  have hl : lv_has ls 3 [(0, .ref h0), (1, .ref mm), (2, .int n)] := hl
  have hS : va_S A s.heap s.heap [] := va_S.rf
  have hap := r_apart (ci := 12) hts in_X12 tyX12 tyX12_ok apX_6 hK rfl
  refine lv_aload_n hx hb dX12_init_0 rfl (lv_at hl 0 rfl) ?_
  refine lv_aload_n hx hb dX12_init_1 rfl (lv_at hl 1 rfl) ?_
  refine r_putF (C := RX12) (T := TX12) (N := 4) (ty := (.object "LeftGloves")) hx hb hts in_X12 hap hown hK hI hS (hc) rfl 3 (by decide) (hts _ q383) (fun _ h => h) rfl hin rfl (by decide +kernel) rfl rfl (Nat.le_of_ble_eq_true rfl) dX12_init_2 (fun H1 locs1 hI hS => ?_)
  refine lv_aload_n hx hb dX12_init_5 rfl (lv_at hl 0 rfl) ?_
  refine lv_aload_n hx hb dX12_init_6 rfl (lv_at hl 1 rfl) ?_
  refine lv_iload_n hx hb dX12_init_7 rfl (lv_at hl 2 rfl) ?_
  refine c_m (k_I (As := [.ref mm, .int n]) (rest := []) F (n_X7_init_6 (n := n) (mm := mm) (cadd_at _ _ _)) (cwI 2 hts (lw_meth q308) rfl rfl rfl (hts _ q101) (hts _ q382) (hts _ q307) rfl (by decide +kernel) ⟨Nat.le_of_ble_eq_true rfl, Nat.le_of_ble_eq_true rfl⟩) hI hK hX hS rfl hl.1 rfl (Nat.le_of_ble_eq_true rfl) dX12_init_8 ⟨Nat.le_of_ble_eq_true rfl, Nat.le_of_ble_eq_true rfl⟩) hS (fun H1 locs1 hI hS => ?_)
  simp only [cadd_two] at hI
  exact W.vret hx hb hr (fun t ht _ => ⟨rfl, by rw [ht]; exact hI, hS.F ht⟩) hS.2.2 dX12_init_11
theorem n_X0_made_0 {l : Launch} {D : va_G} {A : Nat → Prop} {z : Value × Value} {cf : cmap} {i0 mm : Nat} {n : Int32} (hc : cf i0 = none) : Met l yX0_made (ws_ yX0_made cX0_made 3 (some (.object "LeftGloves$Glove"))) ({ frames := 5, cells := 1, slots := 5, locals := 100 } : Room) (va_Pc [.ref mm, .int 0, .int n] (pN D cf A z)) (vQ D A (fun ov cf' => ∃ a, ov = some (.ref a) ∧ cf' = cadd cf i0 (a, .inr (6, [.int n, .ref mm, .ref mm, .ref mm, .ref mm])))) 1 5 A := by
  refine met_N (by decide) rfl (Nat.le_of_ble_eq_true rfl) ?_
  intro p e s m below meth c ls hx hb hr hml hown hts hlocks hl hI hK hX hin
  have F : CallFix p m c cX0_made 3 s _ lw_all RX0 := ⟨hx, hb, hml, hown, hts⟩
  have hl : lv_has ls 3 [(0, .ref mm), (1, .int 0), (2, .int n)] := hl
  have hS : va_S A s.heap s.heap [] := va_S.rf
  refine lv_iload_n hx hb dX0_made_0 rfl (lv_at hl 1 rfl) ?_
  refine lv_tableOut (tgt := 100) hx hb dX0_made_1 (by decide) (by decide) ?_
  refine r_new (ci := 6) (fs := [.int 0, .null, .ref mm, .ref mm, .ref mm]) (C := RX6) (T := TX6) (N := 2) (i := i0) hx hb hts in_X6 tyX6 tyX6_ok hown (hts _ q390) (hts _ q391) (hts _ q100) hK hI hS hX.2.2.2.2 rfl (fun j hj => by rcases (show j = 0 ∨ j = 1 by omega) with rfl | rfl <;> rfl) hc (Nat.le_of_ble_eq_true rfl) (Nat.le_of_ble_eq_true rfl) dX0_made_100 (fun q H1 hI hS => ?_)
  refine W.widen (k := 1) (n := 5) (Nat.le_of_ble_eq_true rfl) (Nat.le_of_ble_eq_true rfl) ?_
  refine lv_dup hx hb dX0_made_103 rfl ?_
  refine lv_aload_n hx hb dX0_made_104 rfl (lv_at hl 0 rfl) ?_
  refine lv_iload_n hx hb dX0_made_105 rfl (lv_at hl 2 rfl) ?_
  refine c_m (k_I (As := [.ref mm, .int n]) (rest := [.ref q]) F (n_X6_init_0 (n := n) (mm := mm) (cadd_at _ _ _)) (cwI 2 hts (lw_meth q311) rfl rfl rfl (hts _ q100) (hts _ q392) (hts _ q310) rfl (by decide +kernel) ⟨Nat.le_of_ble_eq_true rfl, Nat.le_of_ble_eq_true rfl⟩) hI hK hX hS rfl hl.1 rfl (Nat.le_of_ble_eq_true rfl) dX0_made_106 ⟨Nat.le_of_ble_eq_true rfl, Nat.le_of_ble_eq_true rfl⟩) hS (fun H1 locs1 hI hS => ?_)
  simp only [cadd_two] at hI
  exact W.aret hx hb hr (Or.inl ⟨_, rfl⟩) (Or.inr ⟨_, rfl⟩) (fun t ht _ => ⟨⟨_, _, rfl, ⟨q, rfl, rfl⟩, by rw [ht]; exact hI⟩, hS.F ht⟩) hS.2.2 dX0_made_109
theorem n_X0_made_1 {l : Launch} {D : va_G} {A : Nat → Prop} {z : Value × Value} {cf : cmap} {i0 mm : Nat} {n : Int32} (hc : cf i0 = none) : Met l yX0_made (ws_ yX0_made cX0_made 3 (some (.object "LeftGloves$Glove"))) ({ frames := 5, cells := 1, slots := 5, locals := 100 } : Room) (va_Pc [.ref mm, .int 1, .int n] (pN D cf A z)) (vQ D A (fun ov cf' => ∃ a, ov = some (.ref a) ∧ cf' = cadd cf i0 (a, .inr (7, [.int n, .ref mm, .ref mm, .ref mm, .ref mm])))) 1 5 A := by
  refine met_N (by decide) rfl (Nat.le_of_ble_eq_true rfl) ?_
  intro p e s m below meth c ls hx hb hr hml hown hts hlocks hl hI hK hX hin
  have F : CallFix p m c cX0_made 3 s _ lw_all RX0 := ⟨hx, hb, hml, hown, hts⟩
  have hl : lv_has ls 3 [(0, .ref mm), (1, .int 1), (2, .int n)] := hl
  have hS : va_S A s.heap s.heap [] := va_S.rf
  refine lv_iload_n hx hb dX0_made_0 rfl (lv_at hl 1 rfl) ?_
  refine lv_tableIn (off := 39) (tgt := 40) hx hb dX0_made_1 (by decide) (by decide) (by rfl) (by decide) ?_
  refine r_new (ci := 7) (fs := [.int 0, .null, .null, .ref mm, .ref mm]) (C := RX7) (T := TX7) (N := 3) (i := i0) hx hb hts in_X7 tyX7 tyX7_ok hown (hts _ q304) (hts _ q305) (hts _ q101) hK hI hS hX.2.2.2.2 rfl (fun j hj => by rcases (show j = 0 ∨ j = 1 ∨ j = 2 by omega) with rfl | rfl | rfl <;> rfl) hc (Nat.le_of_ble_eq_true rfl) (Nat.le_of_ble_eq_true rfl) dX0_made_40 (fun q H1 hI hS => ?_)
  refine W.widen (k := 1) (n := 5) (Nat.le_of_ble_eq_true rfl) (Nat.le_of_ble_eq_true rfl) ?_
  refine lv_dup hx hb dX0_made_43 rfl ?_
  refine lv_aload_n hx hb dX0_made_44 rfl (lv_at hl 0 rfl) ?_
  refine lv_iload_n hx hb dX0_made_45 rfl (lv_at hl 2 rfl) ?_
  refine c_m (k_I (As := [.ref mm, .int n]) (rest := [.ref q]) F (n_X7_init_1 (n := n) (mm := mm) (cadd_at _ _ _)) (cwI 2 hts (lw_meth q308) rfl rfl rfl (hts _ q101) (hts _ q306) (hts _ q307) rfl (by decide +kernel) ⟨Nat.le_of_ble_eq_true rfl, Nat.le_of_ble_eq_true rfl⟩) hI hK hX hS rfl hl.1 rfl (Nat.le_of_ble_eq_true rfl) dX0_made_46 ⟨Nat.le_of_ble_eq_true rfl, Nat.le_of_ble_eq_true rfl⟩) hS (fun H1 locs1 hI hS => ?_)
  simp only [cadd_two] at hI
  exact W.aret hx hb hr (Or.inl ⟨_, rfl⟩) (Or.inr ⟨_, rfl⟩) (fun t ht _ => ⟨⟨_, _, rfl, ⟨q, rfl, rfl⟩, by rw [ht]; exact hI⟩, hS.F ht⟩) hS.2.2 dX0_made_49
theorem n_X0_made_2 {l : Launch} {D : va_G} {A : Nat → Prop} {z : Value × Value} {cf : cmap} {i0 mm : Nat} {n : Int32} (hc : cf i0 = none) : Met l yX0_made (ws_ yX0_made cX0_made 3 (some (.object "LeftGloves$Glove"))) ({ frames := 5, cells := 1, slots := 5, locals := 100 } : Room) (va_Pc [.ref mm, .int 2, .int n] (pN D cf A z)) (vQ D A (fun ov cf' => ∃ a, ov = some (.ref a) ∧ cf' = cadd cf i0 (a, .inr (8, [.int n, .ref mm, .ref mm, .ref mm, .ref mm])))) 1 5 A := by
  refine met_N (by decide) rfl (Nat.le_of_ble_eq_true rfl) ?_
  intro p e s m below meth c ls hx hb hr hml hown hts hlocks hl hI hK hX hin
  have F : CallFix p m c cX0_made 3 s _ lw_all RX0 := ⟨hx, hb, hml, hown, hts⟩
  have hl : lv_has ls 3 [(0, .ref mm), (1, .int 2), (2, .int n)] := hl
  have hS : va_S A s.heap s.heap [] := va_S.rf
  refine lv_iload_n hx hb dX0_made_0 rfl (lv_at hl 1 rfl) ?_
  refine lv_tableIn (off := 49) (tgt := 50) hx hb dX0_made_1 (by decide) (by decide) (by rfl) (by decide) ?_
  refine r_new (ci := 8) (fs := [.int 0, .null, .null, .ref mm, .ref mm]) (C := RX8) (T := TX8) (N := 3) (i := i0) hx hb hts in_X8 tyX8 tyX8_ok hown (hts _ q326) (hts _ q327) (hts _ q102) hK hI hS hX.2.2.2.2 rfl (fun j hj => by rcases (show j = 0 ∨ j = 1 ∨ j = 2 by omega) with rfl | rfl | rfl <;> rfl) hc (Nat.le_of_ble_eq_true rfl) (Nat.le_of_ble_eq_true rfl) dX0_made_50 (fun q H1 hI hS => ?_)
  refine W.widen (k := 1) (n := 5) (Nat.le_of_ble_eq_true rfl) (Nat.le_of_ble_eq_true rfl) ?_
  refine lv_dup hx hb dX0_made_53 rfl ?_
  refine lv_aload_n hx hb dX0_made_54 rfl (lv_at hl 0 rfl) ?_
  refine lv_iload_n hx hb dX0_made_55 rfl (lv_at hl 2 rfl) ?_
  refine c_m (k_I (As := [.ref mm, .int n]) (rest := [.ref q]) F (n_X8_init_2 (n := n) (mm := mm) (cadd_at _ _ _)) (cwI 2 hts (lw_meth q330) rfl rfl rfl (hts _ q102) (hts _ q328) (hts _ q329) rfl (by decide +kernel) ⟨Nat.le_of_ble_eq_true rfl, Nat.le_of_ble_eq_true rfl⟩) hI hK hX hS rfl hl.1 rfl (Nat.le_of_ble_eq_true rfl) dX0_made_56 ⟨Nat.le_of_ble_eq_true rfl, Nat.le_of_ble_eq_true rfl⟩) hS (fun H1 locs1 hI hS => ?_)
  simp only [cadd_two] at hI
  exact W.aret hx hb hr (Or.inl ⟨_, rfl⟩) (Or.inr ⟨_, rfl⟩) (fun t ht _ => ⟨⟨_, _, rfl, ⟨q, rfl, rfl⟩, by rw [ht]; exact hI⟩, hS.F ht⟩) hS.2.2 dX0_made_59
theorem n_X0_made_3 {l : Launch} {D : va_G} {A : Nat → Prop} {z : Value × Value} {cf : cmap} {i0 mm : Nat} {n : Int32} (hc : cf i0 = none) : Met l yX0_made (ws_ yX0_made cX0_made 3 (some (.object "LeftGloves$Glove"))) ({ frames := 5, cells := 1, slots := 5, locals := 100 } : Room) (va_Pc [.ref mm, .int 3, .int n] (pN D cf A z)) (vQ D A (fun ov cf' => ∃ a, ov = some (.ref a) ∧ cf' = cadd cf i0 (a, .inr (9, [.int n, .ref mm, .ref mm, .ref mm, .ref mm])))) 1 5 A := by
  refine met_N (by decide) rfl (Nat.le_of_ble_eq_true rfl) ?_
  intro p e s m below meth c ls hx hb hr hml hown hts hlocks hl hI hK hX hin
  have F : CallFix p m c cX0_made 3 s _ lw_all RX0 := ⟨hx, hb, hml, hown, hts⟩
  have hl : lv_has ls 3 [(0, .ref mm), (1, .int 3), (2, .int n)] := hl
  have hS : va_S A s.heap s.heap [] := va_S.rf
  refine lv_iload_n hx hb dX0_made_0 rfl (lv_at hl 1 rfl) ?_
  refine lv_tableIn (off := 59) (tgt := 60) hx hb dX0_made_1 (by decide) (by decide) (by rfl) (by decide) ?_
  refine r_new (ci := 9) (fs := [.int 0, .null, .null, .null, .ref mm]) (C := RX9) (T := TX9) (N := 4) (i := i0) hx hb hts in_X9 tyX9 tyX9_ok hown (hts _ q338) (hts _ q339) (hts _ q103) hK hI hS hX.2.2.2.2 rfl (fun j hj => by rcases (show j = 0 ∨ j = 1 ∨ j = 2 ∨ j = 3 by omega) with rfl | rfl | rfl | rfl <;> rfl) hc (Nat.le_of_ble_eq_true rfl) (Nat.le_of_ble_eq_true rfl) dX0_made_60 (fun q H1 hI hS => ?_)
  refine W.widen (k := 1) (n := 5) (Nat.le_of_ble_eq_true rfl) (Nat.le_of_ble_eq_true rfl) ?_
  refine lv_dup hx hb dX0_made_63 rfl ?_
  refine lv_aload_n hx hb dX0_made_64 rfl (lv_at hl 0 rfl) ?_
  refine lv_iload_n hx hb dX0_made_65 rfl (lv_at hl 2 rfl) ?_
  refine c_m (k_I (As := [.ref mm, .int n]) (rest := [.ref q]) F (n_X9_init_3 (n := n) (mm := mm) (cadd_at _ _ _)) (cwI 2 hts (lw_meth q342) rfl rfl rfl (hts _ q103) (hts _ q340) (hts _ q341) rfl (by decide +kernel) ⟨Nat.le_of_ble_eq_true rfl, Nat.le_of_ble_eq_true rfl⟩) hI hK hX hS rfl hl.1 rfl (Nat.le_of_ble_eq_true rfl) dX0_made_66 ⟨Nat.le_of_ble_eq_true rfl, Nat.le_of_ble_eq_true rfl⟩) hS (fun H1 locs1 hI hS => ?_)
  simp only [cadd_two] at hI
  exact W.aret hx hb hr (Or.inl ⟨_, rfl⟩) (Or.inr ⟨_, rfl⟩) (fun t ht _ => ⟨⟨_, _, rfl, ⟨q, rfl, rfl⟩, by rw [ht]; exact hI⟩, hS.F ht⟩) hS.2.2 dX0_made_69
theorem n_X0_made_4 {l : Launch} {D : va_G} {A : Nat → Prop} {z : Value × Value} {cf : cmap} {i0 mm : Nat} {n : Int32} (hc : cf i0 = none) : Met l yX0_made (ws_ yX0_made cX0_made 3 (some (.object "LeftGloves$Glove"))) ({ frames := 5, cells := 1, slots := 5, locals := 100 } : Room) (va_Pc [.ref mm, .int 4, .int n] (pN D cf A z)) (vQ D A (fun ov cf' => ∃ a, ov = some (.ref a) ∧ cf' = cadd cf i0 (a, .inr (10, [.int n, .ref mm, .ref mm, .ref mm, .ref mm])))) 1 5 A := by
  refine met_N (by decide) rfl (Nat.le_of_ble_eq_true rfl) ?_
  intro p e s m below meth c ls hx hb hr hml hown hts hlocks hl hI hK hX hin
  have F : CallFix p m c cX0_made 3 s _ lw_all RX0 := ⟨hx, hb, hml, hown, hts⟩
  have hl : lv_has ls 3 [(0, .ref mm), (1, .int 4), (2, .int n)] := hl
  have hS : va_S A s.heap s.heap [] := va_S.rf
  refine lv_iload_n hx hb dX0_made_0 rfl (lv_at hl 1 rfl) ?_
  refine lv_tableIn (off := 69) (tgt := 70) hx hb dX0_made_1 (by decide) (by decide) (by rfl) (by decide) ?_
  refine r_new (ci := 10) (fs := [.int 0, .null, .null, .null, .null]) (C := RX10) (T := TX10) (N := 5) (i := i0) hx hb hts in_X10 tyX10 tyX10_ok hown (hts _ q351) (hts _ q352) (hts _ q104) hK hI hS hX.2.2.2.2 rfl (fun j hj => by rcases (show j = 0 ∨ j = 1 ∨ j = 2 ∨ j = 3 ∨ j = 4 by omega) with rfl | rfl | rfl | rfl | rfl <;> rfl) hc (Nat.le_of_ble_eq_true rfl) (Nat.le_of_ble_eq_true rfl) dX0_made_70 (fun q H1 hI hS => ?_)
  refine W.widen (k := 1) (n := 5) (Nat.le_of_ble_eq_true rfl) (Nat.le_of_ble_eq_true rfl) ?_
  refine lv_dup hx hb dX0_made_73 rfl ?_
  refine lv_aload_n hx hb dX0_made_74 rfl (lv_at hl 0 rfl) ?_
  refine lv_iload_n hx hb dX0_made_75 rfl (lv_at hl 2 rfl) ?_
  refine c_m (k_I (As := [.ref mm, .int n]) (rest := [.ref q]) F (n_X10_init_4 (n := n) (mm := mm) (cadd_at _ _ _)) (cwI 2 hts (lw_meth q355) rfl rfl rfl (hts _ q104) (hts _ q353) (hts _ q354) rfl (by decide +kernel) ⟨Nat.le_of_ble_eq_true rfl, Nat.le_of_ble_eq_true rfl⟩) hI hK hX hS rfl hl.1 rfl (Nat.le_of_ble_eq_true rfl) dX0_made_76 ⟨Nat.le_of_ble_eq_true rfl, Nat.le_of_ble_eq_true rfl⟩) hS (fun H1 locs1 hI hS => ?_)
  simp only [cadd_two] at hI
  exact W.aret hx hb hr (Or.inl ⟨_, rfl⟩) (Or.inr ⟨_, rfl⟩) (fun t ht _ => ⟨⟨_, _, rfl, ⟨q, rfl, rfl⟩, by rw [ht]; exact hI⟩, hS.F ht⟩) hS.2.2 dX0_made_79
theorem n_X0_made_5 {l : Launch} {D : va_G} {A : Nat → Prop} {z : Value × Value} {cf : cmap} {i0 mm : Nat} {n : Int32} (hc : cf i0 = none) : Met l yX0_made (ws_ yX0_made cX0_made 3 (some (.object "LeftGloves$Glove"))) ({ frames := 5, cells := 1, slots := 5, locals := 100 } : Room) (va_Pc [.ref mm, .int 5, .int n] (pN D cf A z)) (vQ D A (fun ov cf' => ∃ a, ov = some (.ref a) ∧ cf' = cadd cf i0 (a, .inr (11, [.int n, .ref mm, .ref mm, .ref mm, .ref mm])))) 1 5 A := by
  refine met_N (by decide) rfl (Nat.le_of_ble_eq_true rfl) ?_
  intro p e s m below meth c ls hx hb hr hml hown hts hlocks hl hI hK hX hin
  have F : CallFix p m c cX0_made 3 s _ lw_all RX0 := ⟨hx, hb, hml, hown, hts⟩
  have hl : lv_has ls 3 [(0, .ref mm), (1, .int 5), (2, .int n)] := hl
  have hS : va_S A s.heap s.heap [] := va_S.rf
  refine lv_iload_n hx hb dX0_made_0 rfl (lv_at hl 1 rfl) ?_
  refine lv_tableIn (off := 79) (tgt := 80) hx hb dX0_made_1 (by decide) (by decide) (by rfl) (by decide) ?_
  refine r_new (ci := 11) (fs := [.int 0, .null, .null, .ref mm, .ref mm]) (C := RX11) (T := TX11) (N := 3) (i := i0) hx hb hts in_X11 tyX11 tyX11_ok hown (hts _ q365) (hts _ q366) (hts _ q105) hK hI hS hX.2.2.2.2 rfl (fun j hj => by rcases (show j = 0 ∨ j = 1 ∨ j = 2 by omega) with rfl | rfl | rfl <;> rfl) hc (Nat.le_of_ble_eq_true rfl) (Nat.le_of_ble_eq_true rfl) dX0_made_80 (fun q H1 hI hS => ?_)
  refine W.widen (k := 1) (n := 5) (Nat.le_of_ble_eq_true rfl) (Nat.le_of_ble_eq_true rfl) ?_
  refine lv_dup hx hb dX0_made_83 rfl ?_
  refine lv_aload_n hx hb dX0_made_84 rfl (lv_at hl 0 rfl) ?_
  refine lv_iload_n hx hb dX0_made_85 rfl (lv_at hl 2 rfl) ?_
  refine c_m (k_I (As := [.ref mm, .int n]) (rest := [.ref q]) F (n_X11_init_5 (n := n) (mm := mm) (cadd_at _ _ _)) (cwI 2 hts (lw_meth q369) rfl rfl rfl (hts _ q105) (hts _ q367) (hts _ q368) rfl (by decide +kernel) ⟨Nat.le_of_ble_eq_true rfl, Nat.le_of_ble_eq_true rfl⟩) hI hK hX hS rfl hl.1 rfl (Nat.le_of_ble_eq_true rfl) dX0_made_86 ⟨Nat.le_of_ble_eq_true rfl, Nat.le_of_ble_eq_true rfl⟩) hS (fun H1 locs1 hI hS => ?_)
  simp only [cadd_two] at hI
  exact W.aret hx hb hr (Or.inl ⟨_, rfl⟩) (Or.inr ⟨_, rfl⟩) (fun t ht _ => ⟨⟨_, _, rfl, ⟨q, rfl, rfl⟩, by rw [ht]; exact hI⟩, hS.F ht⟩) hS.2.2 dX0_made_89
theorem n_X0_made_6 {l : Launch} {D : va_G} {A : Nat → Prop} {z : Value × Value} {cf : cmap} {i0 mm : Nat} {n : Int32} (hc : cf i0 = none) : Met l yX0_made (ws_ yX0_made cX0_made 3 (some (.object "LeftGloves$Glove"))) ({ frames := 5, cells := 1, slots := 5, locals := 100 } : Room) (va_Pc [.ref mm, .int 6, .int n] (pN D cf A z)) (vQ D A (fun ov cf' => ∃ a, ov = some (.ref a) ∧ cf' = cadd cf i0 (a, .inr (12, [.int n, .ref mm, .ref mm, .ref mm, .ref mm])))) 1 5 A := by
  refine met_N (by decide) rfl (Nat.le_of_ble_eq_true rfl) ?_
  intro p e s m below meth c ls hx hb hr hml hown hts hlocks hl hI hK hX hin
  have F : CallFix p m c cX0_made 3 s _ lw_all RX0 := ⟨hx, hb, hml, hown, hts⟩
  have hl : lv_has ls 3 [(0, .ref mm), (1, .int 6), (2, .int n)] := hl
  have hS : va_S A s.heap s.heap [] := va_S.rf
  refine lv_iload_n hx hb dX0_made_0 rfl (lv_at hl 1 rfl) ?_
  refine lv_tableIn (off := 89) (tgt := 90) hx hb dX0_made_1 (by decide) (by decide) (by rfl) (by decide) ?_
  refine r_new (ci := 12) (fs := [.int 0, .null, .null, .null, .ref mm]) (C := RX12) (T := TX12) (N := 4) (i := i0) hx hb hts in_X12 tyX12 tyX12_ok hown (hts _ q377) (hts _ q378) (hts _ q106) hK hI hS hX.2.2.2.2 rfl (fun j hj => by rcases (show j = 0 ∨ j = 1 ∨ j = 2 ∨ j = 3 by omega) with rfl | rfl | rfl | rfl <;> rfl) hc (Nat.le_of_ble_eq_true rfl) (Nat.le_of_ble_eq_true rfl) dX0_made_90 (fun q H1 hI hS => ?_)
  refine W.widen (k := 1) (n := 5) (Nat.le_of_ble_eq_true rfl) (Nat.le_of_ble_eq_true rfl) ?_
  refine lv_dup hx hb dX0_made_93 rfl ?_
  refine lv_aload_n hx hb dX0_made_94 rfl (lv_at hl 0 rfl) ?_
  refine lv_iload_n hx hb dX0_made_95 rfl (lv_at hl 2 rfl) ?_
  refine c_m (k_I (As := [.ref mm, .int n]) (rest := [.ref q]) F (n_X12_init_6 (n := n) (mm := mm) (cadd_at _ _ _)) (cwI 2 hts (lw_meth q381) rfl rfl rfl (hts _ q106) (hts _ q379) (hts _ q380) rfl (by decide +kernel) ⟨Nat.le_of_ble_eq_true rfl, Nat.le_of_ble_eq_true rfl⟩) hI hK hX hS rfl hl.1 rfl (Nat.le_of_ble_eq_true rfl) dX0_made_96 ⟨Nat.le_of_ble_eq_true rfl, Nat.le_of_ble_eq_true rfl⟩) hS (fun H1 locs1 hI hS => ?_)
  simp only [cadd_two] at hI
  exact W.aret hx hb hr (Or.inl ⟨_, rfl⟩) (Or.inr ⟨_, rfl⟩) (fun t ht _ => ⟨⟨_, _, rfl, ⟨q, rfl, rfl⟩, by rw [ht]; exact hI⟩, hS.F ht⟩) hS.2.2 dX0_made_99
theorem n_X0_made {l : Launch} {D : va_G} {A : Nat → Prop} {z : Value × Value} {cf : cmap} {i0 mm : Nat} {n : Int32} {κ : Nat} (hκ : κ < 7) (hc : cf i0 = none) : Met l yX0_made (ws_ yX0_made cX0_made 3 (some (.object "LeftGloves$Glove"))) ({ frames := 5, cells := 1, slots := 5, locals := 100 } : Room) (va_Pc [.ref mm, .int (nI κ), .int n] (pN D cf A z)) (vQ D A (fun ov cf' => ∃ a, ov = some (.ref a) ∧ cf' = cadd cf i0 (a, .inr (6 + κ, [.int n, .ref mm, .ref mm, .ref mm, .ref mm])))) 1 5 A :=
  match κ, hκ with
  | 0, _ => n_X0_made_0 hc
  | 1, _ => n_X0_made_1 hc
  | 2, _ => n_X0_made_2 hc
  | 3, _ => n_X0_made_3 hc
  | 4, _ => n_X0_made_4 hc
  | 5, _ => n_X0_made_5 hc
  | 6, _ => n_X0_made_6 hc
