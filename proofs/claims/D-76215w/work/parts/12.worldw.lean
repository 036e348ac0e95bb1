/-! LeftGloves$World: what writes -/
theorem clr_1 (n : Nat) (f : wd) (i r : Nat) (hr : r < 2) : itr (clrS n) f i r = f r := by
  induction i with
  | zero => rfl
  | succ i ih => rw [itr_s, clrS, u2_ne (by omega), ih]
theorem k_X4_draw {l : Launch} {D : va_G} {L : Nat → Nat} {A : Nat → Prop} (x : cst) (w : Nat) (hw4 : w < 4) : Met l yX4_draw (ws_ yX4_draw cX4_draw 1 (some .int)) ({ frames := 0, cells := 0, slots := 0, locals := 0 } : Room) (va_Pc [.ref (L (11 * w))] (pI D (cfC D L x) A)) (nQ D (cfC D L (xs x w (u2 (x.1 w) 1 3 (dzI (x.1 w 1 3))))) A (some (.int (drI (dzI (x.1 w 1 3)))))) 0 0 A := by
  refine met_I (by decide) rfl (Nat.le_of_ble_eq_true rfl) ?_
  intro p e s m below meth c ls hx hb hr hml hown hts hlocks hl hI hK
  have F : CallFix p m c cX4_draw 1 s _ lw_all RX4 := ⟨hx, hb, hml, hown, hts⟩
  have hl : lv_has ls 1 [(0, .ref (L (11 * w)))] := hl
  have hS : va_S A s.heap s.heap [] := va_S.rf
  refine lv_aload_n hx hb dX4_draw_0 rfl (lv_at hl 0 rfl) ?_
  refine lv_aload_n hx hb dX4_draw_1 rfl (lv_at hl 0 rfl) ?_
  refine r_get (C := RX4) (T := TX4) (N := 7) hx hb hts in_X4 hown hK hI (cf_W (w := w) hw4) rfl 5 (by decide) (hts _ q237) (fun _ h => h) rfl dX4_draw_2 ?_
  refine lv_ldc (v := 1103515245) hx hb hown (hts _ q922) dX4_draw_5 ?_
  refine lv_imul hx hb dX4_draw_7 ?_
  refine lv_sipush (v := 12345) hx hb dX4_draw_8 (by decide) ?_
  refine lv_iadd hx hb dX4_draw_11 ?_
  obtain ⟨x1, ex1⟩ : ∃ z, z = xs x w (u2 (x.1 w) 1 3 (((x.1 w 1 3) * (1103515245 : Int32)) + (12345 : Int32))) := ⟨_, rfl⟩
  refine r_put (C := RX4) (T := TX4) (N := 7) (cf' := cfC D L x1) hx hb hts in_X4 tyX4 tyX4_ok nmX4 hown hK hI hS (cf_W (w := w) hw4) rfl 5 (by decide) (hts _ q237) (fun _ h => h) rfl (ty := .int) (by decide +kernel) rfl rfl (Nat.le_of_ble_eq_true rfl) (by rw [ex1]; exact cs_sc (w := w) hw4 (by decide) rfl) dX4_draw_12 (fun H1 locs1 hI hS => ?_)
  refine lv_aload_n hx hb dX4_draw_15 rfl (lv_at hl 0 rfl) ?_
  refine r_get (C := RX4) (T := TX4) (N := 7) hx hb hts in_X4 hown hK hI (cf_W (w := w) hw4) rfl 5 (by decide) (hts _ q237) (fun _ h => h) rfl dX4_draw_16 ?_
  refine lv_bipush (v := 8) hx hb dX4_draw_19 (by decide) ?_
  refine lv_iushr (v := ((x1.1 w 1 3).toUInt32 >>> ((8 : Int32).toUInt32 &&& Int32.toUInt32 31)).toInt32) hx hb dX4_draw_21 rfl ?_
  exact W.iret hx hb hr (fun t ht _ => ⟨rI (by rw [ex1, xs_at, u2_at, if_pos ⟨rfl, rfl⟩]; rfl), by rw [ht]; exact hw_eq hI (congrArg (cfC D L) (by rw [ex1]; rfl)), hS.F ht⟩) hS.2.2 dX4_draw_22
theorem k_X4_learns {l : Launch} {D : va_G} {L : Nat → Nat} {A : Nat → Prop} (x : cst) (w : Nat) (hw4 : w < 4) (k : Nat) (t kp : Int32) (hk : k < 8) : Met l yX4_learns (ws_ yX4_learns cX4_learns 6 none) ({ frames := 2, cells := 0, slots := 0, locals := 40 } : Room) (va_Pc [.ref (L (11 * w)), .int (nI k), .int t, .int kp] (pI D (cfC D L x) A)) (nQ D (cfC D L (xs x w (lnw (x.1 w) k t kp))) A none) 0 0 A := by
  refine met_I (by decide) rfl (Nat.le_of_ble_eq_true rfl) ?_
  intro p e s m below meth c ls hx hb hr hml hown hts hlocks hl hI hK
  have F : CallFix p m c cX4_learns 6 s _ lw_all RX4 := ⟨hx, hb, hml, hown, hts⟩
  have hl : lv_has ls 6 [(0, .ref (L (11 * w))), (1, .int (nI k)), (2, .int t), (3, .int kp)] := hl
  have hS : va_S A s.heap s.heap [] := va_S.rf
  refine lv_aload_n hx hb dX4_learns_0 rfl (lv_at hl 0 rfl) ?_
  refine r_get (C := RX4) (T := TX4) (N := 7) hx hb hts in_X4 hown hK hI (cf_W (w := w) hw4) rfl 2 (by decide) (hts _ q229) (fun _ h => h) rfl dX4_learns_1 ?_
  refine lv_iconst (v := 3) hx hb dX4_learns_4 (by decide) ?_
  refine n_aaldI (f := fun r => L (11 * w + 3 + r)) (k := 3) hx hb hK hI (cf_glove (w := w) hw4) (rfl) (by decide) (by decide) dX4_learns_5 ?_
  refine lv_iload_n hx hb dX4_learns_6 rfl (lv_at hl 1 rfl) ?_
  refine n_iald (k := k) hx hb hK hI (cf_row (w := w) (r := 3) hw4 (by decide)) (rfl) (by omega) (by decide) dX4_learns_7 ?_
  refine lv_iconst (v := 1) hx hb dX4_learns_8 (by decide) ?_
  refine lv_iload_n hx hb dX4_learns_9 rfl (lv_at hl 2 rfl) ?_
  refine lv_ishl hx hb dX4_learns_10 ?_
  refine lv_ior hx hb dX4_learns_11 ?_
  refine lv_istore (lv' := [(4, .int ((x.1 w (2 + 3) k) ||| ((1 : Int32) <<< (t &&& 31)))), (0, .ref (L (11 * w))), (1, .int (nI k)), (2, .int t), (3, .int kp)]) hx hb dX4_learns_12 hl (by decide) rfl (fun ls hl => ?_)
  refine lv_iload hx hb dX4_learns_14 (lv_at hl 0 rfl) ?_
  refine lv_iconst (v := 1) hx hb dX4_learns_16 (by decide) ?_
  refine lv_iload_n hx hb dX4_learns_17 rfl (lv_at hl 3 rfl) ?_
  refine lv_ishl hx hb dX4_learns_18 ?_
  refine lv_iconst (v := (-1)) hx hb dX4_learns_19 (by decide) ?_
  refine lv_ixor hx hb dX4_learns_20 ?_
  refine lv_iand hx hb dX4_learns_21 ?_
  refine lv_istore (lv' := [(5, .int (((x.1 w (2 + 3) k) ||| ((1 : Int32) <<< (t &&& 31))) &&& (((1 : Int32) <<< (t &&& 31)) ^^^ ((-1) : Int32)))), (4, .int ((x.1 w (2 + 3) k) ||| ((1 : Int32) <<< (t &&& 31)))), (0, .ref (L (11 * w))), (1, .int (nI k)), (2, .int t), (3, .int kp)]) hx hb dX4_learns_22 hl (by decide) rfl (fun ls hl => ?_)
  refine lv_aload_n hx hb dX4_learns_24 rfl (lv_at hl 2 rfl) ?_
  refine r_get (C := RX4) (T := TX4) (N := 7) hx hb hts in_X4 hown hK hI (cf_W (w := w) hw4) rfl 2 (by decide) (hts _ q229) (fun _ h => h) rfl dX4_learns_25 ?_
  refine lv_iconst (v := 3) hx hb dX4_learns_28 (by decide) ?_
  refine n_aaldI (f := fun r => L (11 * w + 3 + r)) (k := 3) hx hb hK hI (cf_glove (w := w) hw4) (rfl) (by decide) (by decide) dX4_learns_29 ?_
  refine lv_iload_n hx hb dX4_learns_30 rfl (lv_at hl 3 rfl) ?_
  refine lv_iload hx hb dX4_learns_31 (lv_at hl 1 rfl) ?_
  refine c_r (k_SN (As := [.int ((x.1 w (2 + 3) k) ||| ((1 : Int32) <<< (t &&& 31)))]) (rest := [.int (nI k), .ref (L (11 * w + 3 + 3))]) F (k_X0_ones ((x.1 w (2 + 3) k) ||| ((1 : Int32) <<< (t &&& 31)))) ⟨va_cnB 1 hts (lw_meth q735) rfl rfl rfl (nm_6 hK) (hts _ q91) (by decide +kernel) ⟨Nat.le_of_ble_eq_true rfl, Nat.le_of_ble_eq_true rfl⟩, hts _ q734, trivial⟩ rfl hl.1 rfl (Nat.le_of_ble_eq_true rfl) dX4_learns_33 ⟨Nat.le_of_ble_eq_true rfl, Nat.le_of_ble_eq_true rfl⟩) ?_
  refine lv_iload_n hx hb dX4_learns_36 rfl (lv_at hl 5 rfl) ?_
  refine lv_icmp_le (tgt := 54) hx hb dX4_learns_37 (by decide) (fun c_37 => ?_) (fun c_37 => ?_)
  · skip
    have c_37 := Int32.not_lt.mpr c_37
    refine lv_iload hx hb dX4_learns_54 (lv_at hl 1 rfl) ?_
    obtain ⟨x1, ex1⟩ : ∃ z, z = xs x w (u2 (x.1 w) (2 + 3) k ((x.1 w (2 + 3) k) ||| ((1 : Int32) <<< (t &&& 31)))) := ⟨_, rfl⟩
    refine n_iast (cf' := cfC D L x1) (k := k) hx hb hK hI hS (cf_row (w := w) (r := 3) hw4 (by decide)) (rfl) (by omega) (by decide) (by rw [ex1]; exact cs_row (w := w) (r := 3) hw4 (by decide)) dX4_learns_56 (fun H1 locs1 hI hS => ?_)
    exact W.vret hx hb hr (fun t ht _ => ⟨rfl, by rw [ht]; exact hw_eq hI (congrArg (cfC D L) (by rw [ex1]; simp [lnw, lnI, c_37])), hS.F ht⟩) hS.2.2 dX4_learns_57
  · skip
    have c_37 := Int32.not_le.mp c_37
    refine lv_iload hx hb dX4_learns_40 (lv_at hl 1 rfl) ?_
    refine lv_iload hx hb dX4_learns_42 (lv_at hl 0 rfl) ?_
    refine lv_iload hx hb dX4_learns_44 (lv_at hl 0 rfl) ?_
    refine lv_ineg hx hb dX4_learns_46 ?_
    refine lv_iand hx hb dX4_learns_47 ?_
    refine lv_iconst (v := (-1)) hx hb dX4_learns_48 (by decide) ?_
    refine lv_ixor hx hb dX4_learns_49 ?_
    refine lv_iand hx hb dX4_learns_50 ?_
    refine lv_goto (tgt := 56) hx hb dX4_learns_51 (by decide) ?_
    obtain ⟨x2, ex2⟩ : ∃ z, z = xs x w (u2 (x.1 w) (2 + 3) k (((x.1 w (2 + 3) k) ||| ((1 : Int32) <<< (t &&& 31))) &&& (((((x.1 w (2 + 3) k) ||| ((1 : Int32) <<< (t &&& 31))) &&& (((1 : Int32) <<< (t &&& 31)) ^^^ ((-1) : Int32))) &&& (-(((x.1 w (2 + 3) k) ||| ((1 : Int32) <<< (t &&& 31))) &&& (((1 : Int32) <<< (t &&& 31)) ^^^ ((-1) : Int32))))) ^^^ ((-1) : Int32)))) := ⟨_, rfl⟩
    refine n_iast (cf' := cfC D L x2) (k := k) hx hb hK hI hS (cf_row (w := w) (r := 3) hw4 (by decide)) (rfl) (by omega) (by decide) (by rw [ex2]; exact cs_row (w := w) (r := 3) hw4 (by decide)) dX4_learns_56 (fun H1 locs1 hI hS => ?_)
    exact W.vret hx hb hr (fun t ht _ => ⟨rfl, by rw [ht]; exact hw_eq hI (congrArg (cfC D L) (by rw [ex2]; simp [lnw, lnI, c_37])), hS.F ht⟩) hS.2.2 dX4_learns_57
theorem k_X4_isDrawn {l : Launch} {D : va_G} {L : Nat → Nat} {A : Nat → Prop} (x : cst) (w : Nat) (hw4 : w < 4) (k : Nat) (hk : k < 8) : Met l yX4_isDrawn (ws_ yX4_isDrawn cX4_isDrawn 2 none) ({ frames := 1, cells := 0, slots := 0, locals := 21 } : Room) (va_Pc [.ref (L (11 * w)), .int (nI k)] (pI D (cfC D L x) A)) (nQ D (cfC D L (xs x w (isdw (x.1 w) k))) A none) 0 0 A := by
  refine met_I (by decide) rfl (Nat.le_of_ble_eq_true rfl) ?_
  intro p e s m below meth c ls hx hb hr hml hown hts hlocks hl hI hK
  have F : CallFix p m c cX4_isDrawn 2 s _ lw_all RX4 := ⟨hx, hb, hml, hown, hts⟩
  have hl : lv_has ls 2 [(0, .ref (L (11 * w))), (1, .int (nI k))] := hl
  have hS : va_S A s.heap s.heap [] := va_S.rf
  refine lv_aload_n hx hb dX4_isDrawn_0 rfl (lv_at hl 0 rfl) ?_
  refine r_get (C := RX4) (T := TX4) (N := 7) hx hb hts in_X4 hown hK hI (cf_W (w := w) hw4) rfl 2 (by decide) (hts _ q229) (fun _ h => h) rfl dX4_isDrawn_1 ?_
  refine lv_iconst (v := 5) hx hb dX4_isDrawn_4 (by decide) ?_
  refine n_aaldI (f := fun r => L (11 * w + 3 + r)) (k := 5) hx hb hK hI (cf_glove (w := w) hw4) (rfl) (by decide) (by decide) dX4_isDrawn_5 ?_
  refine lv_iload_n hx hb dX4_isDrawn_6 rfl (lv_at hl 1 rfl) ?_
  refine lv_dup2_11 hx hb dX4_isDrawn_7 rfl rfl ?_
  refine n_iald (k := k) hx hb hK hI (cf_row (w := w) (r := 5) hw4 (by decide)) (rfl) (by omega) (by decide) dX4_isDrawn_8 ?_
  refine lv_aload_n hx hb dX4_isDrawn_9 rfl (lv_at hl 0 rfl) ?_
  refine r_get (C := RX4) (T := TX4) (N := 7) hx hb hts in_X4 hown hK hI (cf_W (w := w) hw4) rfl 2 (by decide) (hts _ q229) (fun _ h => h) rfl dX4_isDrawn_10 ?_
  refine lv_iconst (v := 3) hx hb dX4_isDrawn_13 (by decide) ?_
  refine n_aaldI (f := fun r => L (11 * w + 3 + r)) (k := 3) hx hb hK hI (cf_glove (w := w) hw4) (rfl) (by decide) (by decide) dX4_isDrawn_14 ?_
  refine lv_iload_n hx hb dX4_isDrawn_15 rfl (lv_at hl 1 rfl) ?_
  refine n_iald (k := k) hx hb hK hI (cf_row (w := w) (r := 3) hw4 (by decide)) (rfl) (by omega) (by decide) dX4_isDrawn_16 ?_
  refine lv_ior hx hb dX4_isDrawn_17 ?_
  obtain ⟨x1, ex1⟩ : ∃ z, z = xs x w (u2 (x.1 w) (2 + 5) k ((x.1 w (2 + 5) k) ||| (x.1 w (2 + 3) k))) := ⟨_, rfl⟩
  refine n_iast (cf' := cfC D L x1) (k := k) hx hb hK hI hS (cf_row (w := w) (r := 5) hw4 (by decide)) (rfl) (by omega) (by decide) (by rw [ex1]; exact cs_row (w := w) (r := 5) hw4 (by decide)) dX4_isDrawn_18 (fun H1 locs1 hI hS => ?_)
  refine lv_aload_n hx hb dX4_isDrawn_19 rfl (lv_at hl 0 rfl) ?_
  refine r_get (C := RX4) (T := TX4) (N := 7) hx hb hts in_X4 hown hK hI (cf_W (w := w) hw4) rfl 2 (by decide) (hts _ q229) (fun _ h => h) rfl dX4_isDrawn_20 ?_
  refine lv_iconst (v := 3) hx hb dX4_isDrawn_23 (by decide) ?_
  refine n_aaldI (f := fun r => L (11 * w + 3 + r)) (k := 3) hx hb hK hI (cf_glove (w := w) hw4) (rfl) (by decide) (by decide) dX4_isDrawn_24 ?_
  refine lv_iload_n hx hb dX4_isDrawn_25 rfl (lv_at hl 1 rfl) ?_
  refine lv_iconst (v := 0) hx hb dX4_isDrawn_26 (by decide) ?_
  obtain ⟨x2, ex2⟩ : ∃ z, z = xs x1 w (u2 (x1.1 w) (2 + 3) k 0) := ⟨_, rfl⟩
  refine n_iast (cf' := cfC D L x2) (k := k) hx hb hK hI hS (cf_row (w := w) (r := 3) hw4 (by decide)) (rfl) (by omega) (by decide) (by rw [ex2]; exact cs_row (w := w) (r := 3) hw4 (by decide)) dX4_isDrawn_27 (fun H1 locs1 hI hS => ?_)
  refine lv_aload_n hx hb dX4_isDrawn_28 rfl (lv_at hl 0 rfl) ?_
  refine r_get (C := RX4) (T := TX4) (N := 7) hx hb hts in_X4 hown hK hI (cf_W (w := w) hw4) rfl 2 (by decide) (hts _ q229) (fun _ h => h) rfl dX4_isDrawn_29 ?_
  refine lv_iconst (v := 4) hx hb dX4_isDrawn_32 (by decide) ?_
  refine n_aaldI (f := fun r => L (11 * w + 3 + r)) (k := 4) hx hb hK hI (cf_glove (w := w) hw4) (rfl) (by decide) (by decide) dX4_isDrawn_33 ?_
  refine lv_iload_n hx hb dX4_isDrawn_34 rfl (lv_at hl 1 rfl) ?_
  refine lv_iconst (v := 0) hx hb dX4_isDrawn_35 (by decide) ?_
  obtain ⟨x3, ex3⟩ : ∃ z, z = xs x2 w (u2 (x2.1 w) (2 + 4) k 0) := ⟨_, rfl⟩
  refine n_iast (cf' := cfC D L x3) (k := k) hx hb hK hI hS (cf_row (w := w) (r := 4) hw4 (by decide)) (rfl) (by omega) (by decide) (by rw [ex3]; exact cs_row (w := w) (r := 4) hw4 (by decide)) dX4_isDrawn_36 (fun H1 locs1 hI hS => ?_)
  refine lv_aload_n hx hb dX4_isDrawn_37 rfl (lv_at hl 0 rfl) ?_
  refine r_get (C := RX4) (T := TX4) (N := 7) hx hb hts in_X4 hown hK hI (cf_W (w := w) hw4) rfl 2 (by decide) (hts _ q229) (fun _ h => h) rfl dX4_isDrawn_38 ?_
  refine lv_bipush (v := 6) hx hb dX4_isDrawn_41 (by decide) ?_
  refine n_aaldI (f := fun r => L (11 * w + 3 + r)) (k := 6) hx hb hK hI (cf_glove (w := w) hw4) (rfl) (by decide) (by decide) dX4_isDrawn_43 ?_
  refine lv_iload_n hx hb dX4_isDrawn_44 rfl (lv_at hl 1 rfl) ?_
  refine lv_sipush (v := 9999) hx hb dX4_isDrawn_45 (by decide) ?_
  refine lv_aload_n hx hb dX4_isDrawn_48 rfl (lv_at hl 0 rfl) ?_
  refine r_get (C := RX4) (T := TX4) (N := 7) hx hb hts in_X4 hown hK hI (cf_W (w := w) hw4) rfl 2 (by decide) (hts _ q229) (fun _ h => h) rfl dX4_isDrawn_49 ?_
  refine lv_bipush (v := 6) hx hb dX4_isDrawn_52 (by decide) ?_
  refine n_aaldI (f := fun r => L (11 * w + 3 + r)) (k := 6) hx hb hK hI (cf_glove (w := w) hw4) (rfl) (by decide) (by decide) dX4_isDrawn_54 ?_
  refine lv_iload_n hx hb dX4_isDrawn_55 rfl (lv_at hl 1 rfl) ?_
  refine n_iald (k := k) hx hb hK hI (cf_row (w := w) (r := 6) hw4 (by decide)) (rfl) (by omega) (by decide) dX4_isDrawn_56 ?_
  refine lv_iconst (v := 1) hx hb dX4_isDrawn_57 (by decide) ?_
  refine lv_iadd hx hb dX4_isDrawn_58 ?_
  refine va_mmin hx hb (by rw [hml]; exact hl.1.symm) hown (hts _ q685) (hts _ q686) (hts _ q108) (hts _ q687) (Nat.le_of_ble_eq_true rfl) (Nat.le_of_ble_eq_true rfl) (Nat.le_of_ble_eq_true rfl) (Nat.le_of_ble_eq_true rfl) dX4_isDrawn_59 ?_
  obtain ⟨x4, ex4⟩ : ∃ z, z = xs x3 w (u2 (x3.1 w) (2 + 6) k (if ((x3.1 w (2 + 6) k) + (1 : Int32)) < (9999 : Int32) then ((x3.1 w (2 + 6) k) + (1 : Int32)) else (9999 : Int32))) := ⟨_, rfl⟩
  refine n_iast (cf' := cfC D L x4) (k := k) hx hb hK hI hS (cf_row (w := w) (r := 6) hw4 (by decide)) (rfl) (by omega) (by decide) (by rw [ex4]; exact cs_row (w := w) (r := 6) hw4 (by decide)) dX4_isDrawn_62 (fun H1 locs1 hI hS => ?_)
  refine lv_aload_n hx hb dX4_isDrawn_63 rfl (lv_at hl 0 rfl) ?_
  refine r_get (C := RX4) (T := TX4) (N := 7) hx hb hts in_X4 hown hK hI (cf_W (w := w) hw4) rfl 2 (by decide) (hts _ q229) (fun _ h => h) rfl dX4_isDrawn_64 ?_
  refine lv_iconst (v := 1) hx hb dX4_isDrawn_67 (by decide) ?_
  refine n_aaldI (f := fun r => L (11 * w + 3 + r)) (k := 1) hx hb hK hI (cf_glove (w := w) hw4) (rfl) (by decide) (by decide) dX4_isDrawn_68 ?_
  refine lv_iload_n hx hb dX4_isDrawn_69 rfl (lv_at hl 1 rfl) ?_
  refine lv_aload_n hx hb dX4_isDrawn_70 rfl (lv_at hl 0 rfl) ?_
  refine r_get (C := RX4) (T := TX4) (N := 7) hx hb hts in_X4 hown hK hI (cf_W (w := w) hw4) rfl 2 (by decide) (hts _ q229) (fun _ h => h) rfl dX4_isDrawn_71 ?_
  refine lv_iconst (v := 1) hx hb dX4_isDrawn_74 (by decide) ?_
  refine n_aaldI (f := fun r => L (11 * w + 3 + r)) (k := 1) hx hb hK hI (cf_glove (w := w) hw4) (rfl) (by decide) (by decide) dX4_isDrawn_75 ?_
  refine lv_iload_n hx hb dX4_isDrawn_76 rfl (lv_at hl 1 rfl) ?_
  refine n_iald (k := k) hx hb hK hI (cf_row (w := w) (r := 1) hw4 (by decide)) (rfl) (by omega) (by decide) dX4_isDrawn_77 ?_
  refine lv_iconst (v := 1) hx hb dX4_isDrawn_78 (by decide) ?_
  refine lv_iadd hx hb dX4_isDrawn_79 ?_
  refine lv_bipush (v := 6) hx hb dX4_isDrawn_80 (by decide) ?_
  refine lv_irem hx hb dX4_isDrawn_82 (by decide) ?_
  obtain ⟨x5, ex5⟩ : ∃ z, z = xs x4 w (u2 (x4.1 w) (2 + 1) k (((x4.1 w (2 + 1) k) + (1 : Int32)) - ((x4.1 w (2 + 1) k) + (1 : Int32)) / (6 : Int32) * (6 : Int32))) := ⟨_, rfl⟩
  refine n_iast (cf' := cfC D L x5) (k := k) hx hb hK hI hS (cf_row (w := w) (r := 1) hw4 (by decide)) (rfl) (by omega) (by decide) (by rw [ex5]; exact cs_row (w := w) (r := 1) hw4 (by decide)) dX4_isDrawn_83 (fun H1 locs1 hI hS => ?_)
  exact W.vret hx hb hr (fun t ht _ => ⟨rfl, by rw [ht]; exact hw_eq hI (congrArg (cfC D L) (by subst ex5 ex4 ex3 ex2 ex1; simp only [xs_xs, xs_at, isdw, mnI])), hS.F ht⟩) hS.2.2 dX4_isDrawn_84
theorem k_X4_lies {l : Launch} {D : va_G} {L : Nat → Nat} {A : Nat → Prop} (x : cst) (w : Nat) (hw4 : w < 4) (k : Nat) (st : Int32) (hk : k < 8) : Met l yX4_lies (ws_ yX4_lies cX4_lies 3 none) ({ frames := 2, cells := 0, slots := 0, locals := 42 } : Room) (va_Pc [.ref (L (11 * w)), .int (nI k), .int st] (pI D (cfC D L x) A)) (nQ D (cfC D L (xs x w (liw (x.1 w) k st))) A none) 0 0 A := by
  refine met_I (by decide) rfl (Nat.le_of_ble_eq_true rfl) ?_
  intro p e s m below meth c ls hx hb hr hml hown hts hlocks hl hI hK
  have F : CallFix p m c cX4_lies 3 s _ lw_all RX4 := ⟨hx, hb, hml, hown, hts⟩
  have hl : lv_has ls 3 [(0, .ref (L (11 * w))), (1, .int (nI k)), (2, .int st)] := hl
  have hS : va_S A s.heap s.heap [] := va_S.rf
  refine lv_aload_n hx hb dX4_lies_0 rfl (lv_at hl 0 rfl) ?_
  refine r_get (C := RX4) (T := TX4) (N := 7) hx hb hts in_X4 hown hK hI (cf_W (w := w) hw4) rfl 2 (by decide) (hts _ q229) (fun _ h => h) rfl dX4_lies_1 ?_
  refine lv_iconst (v := 4) hx hb dX4_lies_4 (by decide) ?_
  refine n_aaldI (f := fun r => L (11 * w + 3 + r)) (k := 4) hx hb hK hI (cf_glove (w := w) hw4) (rfl) (by decide) (by decide) dX4_lies_5 ?_
  refine lv_iload_n hx hb dX4_lies_6 rfl (lv_at hl 1 rfl) ?_
  refine lv_sipush (v := 9999) hx hb dX4_lies_7 (by decide) ?_
  refine lv_aload_n hx hb dX4_lies_10 rfl (lv_at hl 0 rfl) ?_
  refine r_get (C := RX4) (T := TX4) (N := 7) hx hb hts in_X4 hown hK hI (cf_W (w := w) hw4) rfl 2 (by decide) (hts _ q229) (fun _ h => h) rfl dX4_lies_11 ?_
  refine lv_iconst (v := 4) hx hb dX4_lies_14 (by decide) ?_
  refine n_aaldI (f := fun r => L (11 * w + 3 + r)) (k := 4) hx hb hK hI (cf_glove (w := w) hw4) (rfl) (by decide) (by decide) dX4_lies_15 ?_
  refine lv_iload_n hx hb dX4_lies_16 rfl (lv_at hl 1 rfl) ?_
  refine n_iald (k := k) hx hb hK hI (cf_row (w := w) (r := 4) hw4 (by decide)) (rfl) (by omega) (by decide) dX4_lies_17 ?_
  refine lv_iconst (v := 1) hx hb dX4_lies_18 (by decide) ?_
  refine lv_iadd hx hb dX4_lies_19 ?_
  refine va_mmin hx hb (by rw [hml]; exact hl.1.symm) hown (hts _ q685) (hts _ q686) (hts _ q108) (hts _ q687) (Nat.le_of_ble_eq_true rfl) (Nat.le_of_ble_eq_true rfl) (Nat.le_of_ble_eq_true rfl) (Nat.le_of_ble_eq_true rfl) dX4_lies_20 ?_
  obtain ⟨x1, ex1⟩ : ∃ z, z = xs x w (u2 (x.1 w) (2 + 4) k (if ((x.1 w (2 + 4) k) + (1 : Int32)) < (9999 : Int32) then ((x.1 w (2 + 4) k) + (1 : Int32)) else (9999 : Int32))) := ⟨_, rfl⟩
  refine n_iast (cf' := cfC D L x1) (k := k) hx hb hK hI hS (cf_row (w := w) (r := 4) hw4 (by decide)) (rfl) (by omega) (by decide) (by rw [ex1]; exact cs_row (w := w) (r := 4) hw4 (by decide)) dX4_lies_23 (fun H1 locs1 hI hS => ?_)
  refine lv_iload_n hx hb dX4_lies_24 rfl (lv_at hl 2 rfl) ?_
  refine lv_if_le (tgt := 45) hx hb dX4_lies_25 (by decide) (fun c_25 => ?_) (fun c_25 => ?_)
  · skip
    have c_25 := Int32.not_lt.mpr c_25
    exact W.vret hx hb hr (fun t ht _ => ⟨rfl, by rw [ht]; exact hw_eq hI (congrArg (cfC D L) (by subst ex1; simp only [xs_xs, xs_at, liw, mnI] at *; simp [c_25])), hS.F ht⟩) hS.2.2 dX4_lies_45
  · skip
    have c_25 := Int32.not_le.mp c_25
    refine lv_aload_n hx hb dX4_lies_28 rfl (lv_at hl 0 rfl) ?_
    refine r_get (C := RX4) (T := TX4) (N := 7) hx hb hts in_X4 hown hK hI (cf_W (w := w) hw4) rfl 2 (by decide) (hts _ q229) (fun _ h => h) rfl dX4_lies_29 ?_
    refine lv_iconst (v := 4) hx hb dX4_lies_32 (by decide) ?_
    refine n_aaldI (f := fun r => L (11 * w + 3 + r)) (k := 4) hx hb hK hI (cf_glove (w := w) hw4) (rfl) (by decide) (by decide) dX4_lies_33 ?_
    refine lv_iload_n hx hb dX4_lies_34 rfl (lv_at hl 1 rfl) ?_
    refine n_iald (k := k) hx hb hK hI (cf_row (w := w) (r := 4) hw4 (by decide)) (rfl) (by omega) (by decide) dX4_lies_35 ?_
    refine lv_iload_n hx hb dX4_lies_36 rfl (lv_at hl 2 rfl) ?_
    refine lv_icmp_lt (tgt := 45) hx hb dX4_lies_37 (by decide) (fun c_37 => ?_) (fun c_37 => ?_)
    · skip
      exact W.vret hx hb hr (fun t ht _ => ⟨rfl, by rw [ht]; exact hw_eq hI (congrArg (cfC D L) (by subst ex1; simp only [xs_xs, xs_at, liw, mnI] at *; simp [c_25, c_37])), hS.F ht⟩) hS.2.2 dX4_lies_45
    · skip
      refine lv_aload_n hx hb dX4_lies_40 rfl (lv_at hl 0 rfl) ?_
      refine lv_iload_n hx hb dX4_lies_41 rfl (lv_at hl 1 rfl) ?_
      refine c_m (k_V (As := [.int (nI k)]) (rest := []) F (k_X4_isDrawn x1 w hw4 k (by omega)) (cwV 1 hts (lw_V q746 q682 q683 q98 q684) rfl rfl rfl (by decide +kernel) ⟨Nat.le_of_ble_eq_true rfl, Nat.le_of_ble_eq_true rfl⟩) hI hK (hw.recv hI hK (cf_W (w := w) hw4) rfl) rfl hl.1 rfl (Nat.le_of_ble_eq_true rfl) dX4_lies_42 ⟨Nat.le_of_ble_eq_true rfl, Nat.le_of_ble_eq_true rfl⟩) hS (fun H1 locs1 hI hS => ?_)
      obtain ⟨x2, ex2⟩ : ∃ z, z = xs x1 w (isdw (x1.1 w) k) := ⟨_, rfl⟩
      rw [← ex2] at hI
      exact W.vret hx hb hr (fun t ht _ => ⟨rfl, by rw [ht]; exact hw_eq hI (congrArg (cfC D L) (by subst ex2 ex1; simp only [xs_xs, xs_at, liw, mnI] at *; simp [c_25, c_37])), hS.F ht⟩) hS.2.2 dX4_lies_45
theorem k_X4_add {l : Launch} {D : va_G} {L : Nat → Nat} {A : Nat → Prop} (x : cst) (w : Nat) (hw4 : w < 4) (hO : wOk (x.1 w)) (kind room : Int32) (h7 : wN (x.1 w) < 8) : Met l yX4_add (ws_ yX4_add cX4_add 4 none) ({ frames := 0, cells := 0, slots := 0, locals := 0 } : Room) (va_Pc [.ref (L (11 * w)), .int kind, .int room] (pI D (cfC D L x) A)) (nQ D (cfC D L (xs x w (addw (x.1 w) kind room))) A none) 0 0 A := by
  refine met_I (by decide) rfl (Nat.le_of_ble_eq_true rfl) ?_
  intro p e s m below meth c ls hx hb hr hml hown hts hlocks hl hI hK
  have F : CallFix p m c cX4_add 4 s _ lw_all RX4 := ⟨hx, hb, hml, hown, hts⟩
  have hl : lv_has ls 4 [(0, .ref (L (11 * w))), (1, .int kind), (2, .int room)] := hl
  have hS : va_S A s.heap s.heap [] := va_S.rf
  obtain ⟨n, hn, h8⟩ : ∃ n, x.1 w 1 0 = nI n ∧ n ≤ 8 := ⟨_, hO.n⟩
  have hN : wN (x.1 w) = n := by unfold wN; rw [hn, nI_clamp (by omega)]
  rw [hN] at h7
  refine lv_iconst (v := 0) hx hb dX4_add_0 (by decide) ?_
  refine lv_istore_n (lv' := [(3, .int 0), (0, .ref (L (11 * w))), (1, .int kind), (2, .int room)]) hx hb dX4_add_1 rfl hl (by decide) rfl (fun ls hl => ?_)
  have lp2 : ∀ (fuel : Nat) (i : Nat), (i ≤ 7) → 7 - i < fuel → ∀ (v3 : Int32), v3 = nI i → ∀ (xc2 : cst), xc2 = xs x w (itr (clrS n) (x.1 w) i) → ∀ (H : Heap) (locs : List Loc), hw D (cfC D L xc2) A H → va_S A s.heap H locs → ∀ (ls : Array Slot), lv_has ls 4 [(0, .ref (L (11 * w))), (1, .int kind), (2, .int room), (3, .int v3)] → W p l e ({ frames := 0, cells := 0, slots := 0, locals := 0 } : Room) s m ([.ref (L (11 * w)), .int kind, .int room] : List Value).toArray below meth c H locs 0 0 (MQ below (nQ D (cfC D L (xs x w (addw (x.1 w) kind room))) A none) ([.ref (L (11 * w)), .int kind, .int room] : List Value).toArray s 0 0 A) (F0 m 2 ls []) := by
    intro fuel
    induction fuel with
    | zero => intro i hi hf; exact absurd hf (Nat.not_lt_zero _)
    | succ fuel ih2 =>
      intro i hi hf2 v3 e3  xc2 exc2 H locs hI hS ls hl
      subst e3
      have hq2 : xc2.1 w 1 0 = nI n := by rw [exc2, xs_at, clr_1 _ _ _ _ (by decide)]; exact hn
      refine lv_iload_n hx hb dX4_add_2 rfl (lv_at hl 3 rfl) ?_
      refine lv_bipush (v := 7) hx hb dX4_add_3 (by decide) ?_
      refine lv_icmp_ge (tgt := 26) hx hb dX4_add_5 (by decide) (fun c_5 => ?_) (fun c_5 => ?_)
      · skip
        have c_5 : 7 ≤ i := (nle (a := 7) (b := i) (rfl) (rfl) (by omega) (by omega)).mp c_5
        refine lv_aload_n hx hb dX4_add_26 rfl (lv_at hl 0 rfl) ?_
        refine r_get (C := RX4) (T := TX4) (N := 7) hx hb hts in_X4 hown hK hI (cf_W (w := w) hw4) rfl 2 (by decide) (hts _ q229) (fun _ h => h) rfl dX4_add_27 ?_
        refine lv_iconst (v := 0) hx hb dX4_add_30 (by decide) ?_
        refine n_aaldI (f := fun r => L (11 * w + 3 + r)) (k := 0) hx hb hK hI (cf_glove (w := w) hw4) (rfl) (by decide) (by decide) dX4_add_31 ?_
        refine lv_aload_n hx hb dX4_add_32 rfl (lv_at hl 0 rfl) ?_
        refine r_get (C := RX4) (T := TX4) (N := 7) hx hb hts in_X4 hown hK hI (cf_W (w := w) hw4) rfl 1 (by decide) (hts _ q226) (fun _ h => h) rfl dX4_add_33 ?_
        refine lv_iload_n hx hb dX4_add_36 rfl (lv_at hl 1 rfl) ?_
        obtain ⟨x1, ex1⟩ : ∃ z, z = xs xc2 w (u2 (xc2.1 w) (2 + 0) n kind) := ⟨_, rfl⟩
        have hf_2 : (x1.1 w 1 0) = nI n := by rw [ex1, xs_at, u2_ne (by omega)]; exact hq2
        refine n_iast (cf' := cfC D L x1) (k := n) hx hb hK hI hS (cf_row (w := w) (r := 0) hw4 (by decide)) (hq2) (by omega) (by decide) (by rw [ex1]; exact cs_row (w := w) (r := 0) hw4 (by decide)) dX4_add_37 (fun H1 locs1 hI hS => ?_)
        refine lv_aload_n hx hb dX4_add_38 rfl (lv_at hl 0 rfl) ?_
        refine r_get (C := RX4) (T := TX4) (N := 7) hx hb hts in_X4 hown hK hI (cf_W (w := w) hw4) rfl 2 (by decide) (hts _ q229) (fun _ h => h) rfl dX4_add_39 ?_
        refine lv_iconst (v := 1) hx hb dX4_add_42 (by decide) ?_
        refine n_aaldI (f := fun r => L (11 * w + 3 + r)) (k := 1) hx hb hK hI (cf_glove (w := w) hw4) (rfl) (by decide) (by decide) dX4_add_43 ?_
        refine lv_aload_n hx hb dX4_add_44 rfl (lv_at hl 0 rfl) ?_
        refine r_get (C := RX4) (T := TX4) (N := 7) hx hb hts in_X4 hown hK hI (cf_W (w := w) hw4) rfl 1 (by decide) (hts _ q226) (fun _ h => h) rfl dX4_add_45 ?_
        refine lv_iload_n hx hb dX4_add_48 rfl (lv_at hl 2 rfl) ?_
        obtain ⟨x3, ex3⟩ : ∃ z, z = xs x1 w (u2 (x1.1 w) (2 + 1) n room) := ⟨_, rfl⟩
        have hf_4 : (x3.1 w 1 0) = nI n := by rw [ex3, xs_at, u2_ne (by omega)]; exact hf_2
        refine n_iast (cf' := cfC D L x3) (k := n) hx hb hK hI hS (cf_row (w := w) (r := 1) hw4 (by decide)) (hf_2) (by omega) (by decide) (by rw [ex3]; exact cs_row (w := w) (r := 1) hw4 (by decide)) dX4_add_49 (fun H1 locs1 hI hS => ?_)
        refine lv_aload_n hx hb dX4_add_50 rfl (lv_at hl 0 rfl) ?_
        refine r_get (C := RX4) (T := TX4) (N := 7) hx hb hts in_X4 hown hK hI (cf_W (w := w) hw4) rfl 2 (by decide) (hts _ q229) (fun _ h => h) rfl dX4_add_51 ?_
        refine lv_iconst (v := 2) hx hb dX4_add_54 (by decide) ?_
        refine n_aaldI (f := fun r => L (11 * w + 3 + r)) (k := 2) hx hb hK hI (cf_glove (w := w) hw4) (rfl) (by decide) (by decide) dX4_add_55 ?_
        refine lv_aload_n hx hb dX4_add_56 rfl (lv_at hl 0 rfl) ?_
        refine r_get (C := RX4) (T := TX4) (N := 7) hx hb hts in_X4 hown hK hI (cf_W (w := w) hw4) rfl 1 (by decide) (hts _ q226) (fun _ h => h) rfl dX4_add_57 ?_
        refine lv_iconst (v := 5) hx hb dX4_add_60 (by decide) ?_
        obtain ⟨x5, ex5⟩ : ∃ z, z = xs x3 w (u2 (x3.1 w) (2 + 2) n 5) := ⟨_, rfl⟩
        have hf_6 : (x5.1 w 1 0) = nI n := by rw [ex5, xs_at, u2_ne (by omega)]; exact hf_4
        refine n_iast (cf' := cfC D L x5) (k := n) hx hb hK hI hS (cf_row (w := w) (r := 2) hw4 (by decide)) (hf_4) (by omega) (by decide) (by rw [ex5]; exact cs_row (w := w) (r := 2) hw4 (by decide)) dX4_add_61 (fun H1 locs1 hI hS => ?_)
        refine lv_aload_n hx hb dX4_add_62 rfl (lv_at hl 0 rfl) ?_
        refine lv_dup hx hb dX4_add_63 rfl ?_
        refine r_get (C := RX4) (T := TX4) (N := 7) hx hb hts in_X4 hown hK hI (cf_W (w := w) hw4) rfl 1 (by decide) (hts _ q226) (fun _ h => h) rfl dX4_add_64 ?_
        refine lv_iconst (v := 1) hx hb dX4_add_67 (by decide) ?_
        refine lv_iadd hx hb dX4_add_68 ?_
        obtain ⟨x7, ex7⟩ : ∃ z, z = xs x5 w (u2 (x5.1 w) 1 0 ((x5.1 w 1 0) + (1 : Int32))) := ⟨_, rfl⟩
        refine r_put (C := RX4) (T := TX4) (N := 7) (cf' := cfC D L x7) hx hb hts in_X4 tyX4 tyX4_ok nmX4 hown hK hI hS (cf_W (w := w) hw4) rfl 1 (by decide) (hts _ q226) (fun _ h => h) rfl (ty := .int) (by decide +kernel) rfl rfl (Nat.le_of_ble_eq_true rfl) (by rw [ex7]; exact cs_sc (w := w) hw4 (by decide) rfl) dX4_add_69 (fun H1 locs1 hI hS => ?_)
        exact W.vret hx hb hr (fun t ht _ => ⟨rfl, by rw [ht]; exact hw_eq hI (congrArg (cfC D L) (by subst ex7 ex5 ex3 ex1 exc2; simp only [xs_xs, xs_at, addw, hN]; rw [show i = 7 by omega, u2_ne (show 1 ≠ 2 + 2 by decide), u2_ne (show 1 ≠ 2 + 1 by decide), u2_ne (show 1 ≠ 2 + 0 by decide), clr_1 _ _ _ _ (by decide), hn, nI_1])), hS.F ht⟩) hS.2.2 dX4_add_72
      · skip
        have c_5 : ¬ 7 ≤ i := fun z => c_5 ((nle (a := 7) (b := i) (rfl) (rfl) (by omega) (by omega)).mpr z)
        refine lv_aload_n hx hb dX4_add_8 rfl (lv_at hl 0 rfl) ?_
        refine r_get (C := RX4) (T := TX4) (N := 7) hx hb hts in_X4 hown hK hI (cf_W (w := w) hw4) rfl 2 (by decide) (hts _ q229) (fun _ h => h) rfl dX4_add_9 ?_
        refine lv_iload_n hx hb dX4_add_12 rfl (lv_at hl 3 rfl) ?_
        refine n_aaldI (f := fun r => L (11 * w + 3 + r)) (k := i) hx hb hK hI (cf_glove (w := w) hw4) (rfl) (by omega) (by decide) dX4_add_13 ?_
        refine lv_aload_n hx hb dX4_add_14 rfl (lv_at hl 0 rfl) ?_
        refine r_get (C := RX4) (T := TX4) (N := 7) hx hb hts in_X4 hown hK hI (cf_W (w := w) hw4) rfl 1 (by decide) (hts _ q226) (fun _ h => h) rfl dX4_add_15 ?_
        refine lv_iconst (v := 0) hx hb dX4_add_18 (by decide) ?_
        obtain ⟨x8, ex8⟩ : ∃ z, z = xs xc2 w (u2 (xc2.1 w) (2 + i) n 0) := ⟨_, rfl⟩
        have hf_9 : (x8.1 w 1 0) = nI n := by rw [ex8, xs_at, u2_ne (by omega)]; exact hq2
        refine n_iast (cf' := cfC D L x8) (k := n) hx hb hK hI hS (cf_row (w := w) (r := i) hw4 (by omega)) (hq2) (by omega) (by decide) (by rw [ex8]; exact cs_row (w := w) (r := i) hw4 (by omega)) dX4_add_19 (fun H1 locs1 hI hS => ?_)
        refine lv_iinc (v := (nI (i + 1))) (lv' := [(3, .int (nI (i + 1))), (0, .ref (L (11 * w))), (1, .int kind), (2, .int room)]) hx hb dX4_add_20 hl (k := 3) rfl (nI_1 _) (by decide) rfl (fun ls hl => ?_)
        refine lv_goto (tgt := 2) hx hb dX4_add_23 (by decide) ?_
        exact ih2 (i + 1) (by omega) (by omega) (nI (i + 1)) (rfl) x8 (by rw [ex8, exc2, xs_at, xs_xs]; rfl) _ _ hI hS ls (lv_sub hl [1, 2, 3, 0] rfl)
  exact lp2 (_ + 1) (0) (Nat.zero_le _) (Nat.lt_succ_self _) 0 (rfl) x ((xs_self _ _).symm) _ _ hI hS ls (lv_sub hl [1, 2, 3, 0] rfl)
