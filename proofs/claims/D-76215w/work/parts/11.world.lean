/-! LeftGloves$World: what only reads -/
theorem k_X4_whatIsIn {l : Launch} {D : va_G} {L : Nat → Nat} {A : Nat → Prop} (x : cst) (w : Nat) (hw4 : w < 4) (hO : wOk (x.1 w)) (room : Int32) : Met l yX4_whatIsIn (ws_ yX4_whatIsIn cX4_whatIsIn 4 (some .int)) ({ frames := 1, cells := 0, slots := 0, locals := 21 } : Room) (va_Pc [.ref (L (11 * w)), .int room] (pI D (cfC D L x) A)) (rQ (.int (whI (x.1 w) room))) 0 0 nof := by
  refine met_I (by decide) rfl (Nat.le_of_ble_eq_true rfl) ?_
  intro p e s m below meth c ls hx hb hr hml hown hts hlocks hl hI hK
  have F : CallFix p m c cX4_whatIsIn 4 s _ lw_all RX4 := ⟨hx, hb, hml, hown, hts⟩
  have hl : lv_has ls 4 [(0, .ref (L (11 * w))), (1, .int room)] := hl
  obtain ⟨n, hn, h8⟩ : ∃ n, x.1 w 1 0 = nI n ∧ n ≤ 8 := ⟨_, hO.n⟩
  have hN : wN (x.1 w) = n := by unfold wN; rw [hn, nI_clamp (by omega)]
  refine lv_iconst (v := 0) hx hb dX4_whatIsIn_0 (by decide) ?_
  refine lv_istore_n (lv' := [(2, .int 0), (0, .ref (L (11 * w))), (1, .int room)]) hx hb dX4_whatIsIn_1 rfl hl (by decide) rfl (fun ls hl => ?_)
  refine lv_iconst (v := 0) hx hb dX4_whatIsIn_2 (by decide) ?_
  refine lv_istore_n (lv' := [(3, .int 0), (2, .int 0), (0, .ref (L (11 * w))), (1, .int room)]) hx hb dX4_whatIsIn_3 rfl hl (by decide) rfl (fun ls hl => ?_)
  have lp4 : ∀ (fuel : Nat) (i : Nat), (i ≤ n) → n - i < fuel → ∀ (v2 : Int32) (v3 : Int32), v2 = itr (whS (x.1 w) room) 0 i → v3 = nI i → ∀ (ls : Array Slot), lv_has ls 4 [(0, .ref (L (11 * w))), (1, .int room), (2, .int v2), (3, .int v3)] → W p l e ({ frames := 1, cells := 0, slots := 0, locals := 21 } : Room) s m ([.ref (L (11 * w)), .int room] : List Value).toArray below meth c s.heap [] 0 0 (MQ below (rQ (.int (whI (x.1 w) room))) ([.ref (L (11 * w)), .int room] : List Value).toArray s 0 0 nof) (F0 m 4 ls []) := by
    intro fuel
    induction fuel with
    | zero => intro i hi hf; exact absurd hf (Nat.not_lt_zero _)
    | succ fuel ih4 =>
      intro i hi hf4 v2 v3 e2 e3  ls hl
      subst e2 e3
      refine lv_iload_n hx hb dX4_whatIsIn_4 rfl (lv_at hl 3 rfl) ?_
      refine lv_aload_n hx hb dX4_whatIsIn_5 rfl (lv_at hl 0 rfl) ?_
      refine r_get (C := RX4) (T := TX4) (N := 7) hx hb hts in_X4 hown hK hI (cf_W (w := w) hw4) rfl 1 (by decide) (hts _ q226) (fun _ h => h) rfl dX4_whatIsIn_6 ?_
      refine lv_icmp_ge (tgt := 51) hx hb dX4_whatIsIn_9 (by decide) (fun c_9 => ?_) (fun c_9 => ?_)
      · skip
        have c_9 : n ≤ i := (nle (a := n) (b := i) (hn) (rfl) (by omega) (by omega)).mp c_9
        refine lv_iload_n hx hb dX4_whatIsIn_51 rfl (lv_at hl 2 rfl) ?_
        exact W.iret hx hb hr (fun t ht _ => ⟨rI (by rw [whI, hN, show i = n by omega]), ht⟩) (fun q h => by cases h) dX4_whatIsIn_52
      · skip
        have c_9 : ¬ n ≤ i := fun z => c_9 ((nle (a := n) (b := i) (hn) (rfl) (by omega) (by omega)).mpr z)
        refine lv_iload_n hx hb dX4_whatIsIn_12 rfl (lv_at hl 2 rfl) ?_
        refine lv_aload_n hx hb dX4_whatIsIn_13 rfl (lv_at hl 0 rfl) ?_
        refine r_get (C := RX4) (T := TX4) (N := 7) hx hb hts in_X4 hown hK hI (cf_W (w := w) hw4) rfl 3 (by decide) (hts _ q233) (fun _ h => h) rfl dX4_whatIsIn_14 ?_
        refine lv_iload_n hx hb dX4_whatIsIn_17 rfl (lv_at hl 3 rfl) ?_
        refine c_r (k_SN (As := [.int (x.1 w 1 1), .int (nI i)]) (rest := [.int (itr (whS (x.1 w) room) 0 i)]) F (k_X0_has (x.1 w 1 1) (nI i)) ⟨va_cnB 2 hts (lw_meth q476) rfl rfl rfl (nm_3 hK) (hts _ q91) (by decide +kernel) ⟨Nat.le_of_ble_eq_true rfl, Nat.le_of_ble_eq_true rfl⟩, hts _ q475, trivial⟩ rfl hl.1 rfl (Nat.le_of_ble_eq_true rfl) dX4_whatIsIn_18 ⟨Nat.le_of_ble_eq_true rfl, Nat.le_of_ble_eq_true rfl⟩) ?_
        refine lv_if_ne (tgt := 42) hx hb dX4_whatIsIn_21 (by decide) (fun c_21 => ?_) (fun c_21 => ?_)
        · skip
          refine lv_iconst (v := 0) hx hb dX4_whatIsIn_42 (by decide) ?_
          refine lv_ior hx hb dX4_whatIsIn_43 ?_
          refine lv_istore_n (lv' := [(2, .int ((itr (whS (x.1 w) room) 0 i) ||| (0 : Int32))), (0, .ref (L (11 * w))), (1, .int room), (3, .int (nI i))]) hx hb dX4_whatIsIn_44 rfl hl (by decide) rfl (fun ls hl => ?_)
          refine lv_iinc (v := (nI (i + 1))) (lv' := [(3, .int (nI (i + 1))), (2, .int ((itr (whS (x.1 w) room) 0 i) ||| (0 : Int32))), (0, .ref (L (11 * w))), (1, .int room)]) hx hb dX4_whatIsIn_45 hl (k := 3) rfl (nI_1 _) (by decide) rfl (fun ls hl => ?_)
          refine lv_goto (tgt := 4) hx hb dX4_whatIsIn_48 (by decide) ?_
          exact ih4 (i + 1) (by omega) (by omega) ((itr (whS (x.1 w) room) 0 i) ||| (0 : Int32)) (nI (i + 1)) (by rw [itr_s]; simp [whS, b1, c_9, c_21]) (rfl) ls (lv_sub hl [2, 3, 1, 0] rfl)
        · skip
          refine lv_aload_n hx hb dX4_whatIsIn_24 rfl (lv_at hl 0 rfl) ?_
          refine r_get (C := RX4) (T := TX4) (N := 7) hx hb hts in_X4 hown hK hI (cf_W (w := w) hw4) rfl 2 (by decide) (hts _ q229) (fun _ h => h) rfl dX4_whatIsIn_25 ?_
          refine lv_iconst (v := 1) hx hb dX4_whatIsIn_28 (by decide) ?_
          refine n_aaldI (f := fun r => L (11 * w + 3 + r)) (k := 1) hx hb hK hI (cf_glove (w := w) hw4) (rfl) (by decide) (by decide) dX4_whatIsIn_29 ?_
          refine lv_iload_n hx hb dX4_whatIsIn_30 rfl (lv_at hl 3 rfl) ?_
          refine n_iald (k := i) hx hb hK hI (cf_row (w := w) (r := 1) hw4 (by decide)) (rfl) (by omega) (by decide) dX4_whatIsIn_31 ?_
          refine lv_iload_n hx hb dX4_whatIsIn_32 rfl (lv_at hl 1 rfl) ?_
          refine lv_icmp_ne (tgt := 42) hx hb dX4_whatIsIn_33 (by decide) (fun c_33 => ?_) (fun c_33 => ?_)
          · skip
            refine lv_iconst (v := 0) hx hb dX4_whatIsIn_42 (by decide) ?_
            refine lv_ior hx hb dX4_whatIsIn_43 ?_
            refine lv_istore_n (lv' := [(2, .int ((itr (whS (x.1 w) room) 0 i) ||| (0 : Int32))), (0, .ref (L (11 * w))), (1, .int room), (3, .int (nI i))]) hx hb dX4_whatIsIn_44 rfl hl (by decide) rfl (fun ls hl => ?_)
            refine lv_iinc (v := (nI (i + 1))) (lv' := [(3, .int (nI (i + 1))), (2, .int ((itr (whS (x.1 w) room) 0 i) ||| (0 : Int32))), (0, .ref (L (11 * w))), (1, .int room)]) hx hb dX4_whatIsIn_45 hl (k := 3) rfl (nI_1 _) (by decide) rfl (fun ls hl => ?_)
            refine lv_goto (tgt := 4) hx hb dX4_whatIsIn_48 (by decide) ?_
            exact ih4 (i + 1) (by omega) (by omega) ((itr (whS (x.1 w) room) 0 i) ||| (0 : Int32)) (nI (i + 1)) (by rw [itr_s]; simp [whS, b1, c_9, c_21, c_33]) (rfl) ls (lv_sub hl [2, 3, 1, 0] rfl)
          · skip
            refine lv_iconst (v := 1) hx hb dX4_whatIsIn_36 (by decide) ?_
            refine lv_iload_n hx hb dX4_whatIsIn_37 rfl (lv_at hl 3 rfl) ?_
            refine lv_ishl hx hb dX4_whatIsIn_38 ?_
            refine lv_goto (tgt := 43) hx hb dX4_whatIsIn_39 (by decide) ?_
            refine lv_ior hx hb dX4_whatIsIn_43 ?_
            refine lv_istore_n (lv' := [(2, .int ((itr (whS (x.1 w) room) 0 i) ||| ((1 : Int32) <<< ((nI i) &&& 31)))), (0, .ref (L (11 * w))), (1, .int room), (3, .int (nI i))]) hx hb dX4_whatIsIn_44 rfl hl (by decide) rfl (fun ls hl => ?_)
            refine lv_iinc (v := (nI (i + 1))) (lv' := [(3, .int (nI (i + 1))), (2, .int ((itr (whS (x.1 w) room) 0 i) ||| ((1 : Int32) <<< ((nI i) &&& 31)))), (0, .ref (L (11 * w))), (1, .int room)]) hx hb dX4_whatIsIn_45 hl (k := 3) rfl (nI_1 _) (by decide) rfl (fun ls hl => ?_)
            refine lv_goto (tgt := 4) hx hb dX4_whatIsIn_48 (by decide) ?_
            exact ih4 (i + 1) (by omega) (by omega) ((itr (whS (x.1 w) room) 0 i) ||| ((1 : Int32) <<< ((nI i) &&& 31))) (nI (i + 1)) (by rw [itr_s]; simp [whS, b1, c_9, c_21, c_33]) (rfl) ls (lv_sub hl [2, 3, 1, 0] rfl)
  exact lp4 (_ + 1) (0) (Nat.zero_le _) (Nat.lt_succ_self _) 0 0 (rfl) (rfl) ls (lv_sub hl [2, 3, 1, 0] rfl)
theorem k_X4_known {l : Launch} {D : va_G} {L : Nat → Nat} {A : Nat → Prop} (x : cst) (w : Nat) (hw4 : w < 4) (hO : wOk (x.1 w)) (r : Nat) (sm : Int32) (hr : r < 7) : Met l yX4_known (ws_ yX4_known cX4_known 5 (some .int)) ({ frames := 1, cells := 0, slots := 0, locals := 21 } : Room) (va_Pc [.ref (L (11 * w)), .int (nI r), .int sm] (pI D (cfC D L x) A)) (rQ (.int (knI (x.1 w) r sm))) 0 0 nof := by
  refine met_I (by decide) rfl (Nat.le_of_ble_eq_true rfl) ?_
  intro p e s m below meth c ls hx hb hr hml hown hts hlocks hl hI hK
  have F : CallFix p m c cX4_known 5 s _ lw_all RX4 := ⟨hx, hb, hml, hown, hts⟩
  have hl : lv_has ls 5 [(0, .ref (L (11 * w))), (1, .int (nI r)), (2, .int sm)] := hl
  obtain ⟨n, hn, h8⟩ : ∃ n, x.1 w 1 0 = nI n ∧ n ≤ 8 := ⟨_, hO.n⟩
  have hN : wN (x.1 w) = n := by unfold wN; rw [hn, nI_clamp (by omega)]
  refine lv_iconst (v := 0) hx hb dX4_known_0 (by decide) ?_
  refine lv_istore_n (lv' := [(3, .int 0), (0, .ref (L (11 * w))), (1, .int (nI r)), (2, .int sm)]) hx hb dX4_known_1 rfl hl (by decide) rfl (fun ls hl => ?_)
  refine lv_iconst (v := 0) hx hb dX4_known_2 (by decide) ?_
  refine lv_istore (lv' := [(4, .int 0), (3, .int 0), (0, .ref (L (11 * w))), (1, .int (nI r)), (2, .int sm)]) hx hb dX4_known_3 hl (by decide) rfl (fun ls hl => ?_)
  have lp5 : ∀ (fuel : Nat) (i : Nat), (i ≤ n) → n - i < fuel → ∀ (v3 : Int32) (v4 : Int32), v3 = itr (knS (x.1 w) r sm) 0 i → v4 = nI i → ∀ (ls : Array Slot), lv_has ls 5 [(0, .ref (L (11 * w))), (1, .int (nI r)), (2, .int sm), (3, .int v3), (4, .int v4)] → W p l e ({ frames := 1, cells := 0, slots := 0, locals := 21 } : Room) s m ([.ref (L (11 * w)), .int (nI r), .int sm] : List Value).toArray below meth c s.heap [] 0 0 (MQ below (rQ (.int (knI (x.1 w) r sm))) ([.ref (L (11 * w)), .int (nI r), .int sm] : List Value).toArray s 0 0 nof) (F0 m 5 ls []) := by
    intro fuel
    induction fuel with
    | zero => intro i hi hf; exact absurd hf (Nat.not_lt_zero _)
    | succ fuel ih5 =>
      intro i hi hf5 v3 v4 e3 e4  ls hl
      subst e3 e4
      refine lv_iload hx hb dX4_known_5 (lv_at hl 4 rfl) ?_
      refine lv_aload_n hx hb dX4_known_7 rfl (lv_at hl 0 rfl) ?_
      refine r_get (C := RX4) (T := TX4) (N := 7) hx hb hts in_X4 hown hK hI (cf_W (w := w) hw4) rfl 1 (by decide) (hts _ q226) (fun _ h => h) rfl dX4_known_8 ?_
      refine lv_icmp_ge (tgt := 45) hx hb dX4_known_11 (by decide) (fun c_11 => ?_) (fun c_11 => ?_)
      · skip
        have c_11 : n ≤ i := (nle (a := n) (b := i) (hn) (rfl) (by omega) (by omega)).mp c_11
        refine lv_iload_n hx hb dX4_known_45 rfl (lv_at hl 3 rfl) ?_
        exact W.iret hx hb hr (fun t ht _ => ⟨rI (by rw [knI, hN, show i = n by omega]), ht⟩) (fun q h => by cases h) dX4_known_46
      · skip
        have c_11 : ¬ n ≤ i := fun z => c_11 ((nle (a := n) (b := i) (hn) (rfl) (by omega) (by omega)).mpr z)
        refine lv_iload_n hx hb dX4_known_14 rfl (lv_at hl 3 rfl) ?_
        refine lv_iload_n hx hb dX4_known_15 rfl (lv_at hl 2 rfl) ?_
        refine lv_iload hx hb dX4_known_16 (lv_at hl 4 rfl) ?_
        refine c_r (k_SN (As := [.int sm, .int (nI i)]) (rest := [.int (itr (knS (x.1 w) r sm) 0 i)]) F (k_X0_has sm (nI i)) ⟨va_cnB 2 hts (lw_meth q476) rfl rfl rfl (nm_3 hK) (hts _ q91) (by decide +kernel) ⟨Nat.le_of_ble_eq_true rfl, Nat.le_of_ble_eq_true rfl⟩, hts _ q475, trivial⟩ rfl hl.1 rfl (Nat.le_of_ble_eq_true rfl) dX4_known_18 ⟨Nat.le_of_ble_eq_true rfl, Nat.le_of_ble_eq_true rfl⟩) ?_
        refine lv_if_eq (tgt := 36) hx hb dX4_known_21 (by decide) (fun c_21 => ?_) (fun c_21 => ?_)
        · skip
          refine lv_iconst (v := 0) hx hb dX4_known_36 (by decide) ?_
          refine lv_ior hx hb dX4_known_37 ?_
          refine lv_istore_n (lv' := [(3, .int ((itr (knS (x.1 w) r sm) 0 i) ||| (0 : Int32))), (0, .ref (L (11 * w))), (1, .int (nI r)), (2, .int sm), (4, .int (nI i))]) hx hb dX4_known_38 rfl hl (by decide) rfl (fun ls hl => ?_)
          refine lv_iinc (v := (nI (i + 1))) (lv' := [(4, .int (nI (i + 1))), (3, .int ((itr (knS (x.1 w) r sm) 0 i) ||| (0 : Int32))), (0, .ref (L (11 * w))), (1, .int (nI r)), (2, .int sm)]) hx hb dX4_known_39 hl (k := 4) rfl (nI_1 _) (by decide) rfl (fun ls hl => ?_)
          refine lv_goto (tgt := 5) hx hb dX4_known_42 (by decide) ?_
          exact ih5 (i + 1) (by omega) (by omega) ((itr (knS (x.1 w) r sm) 0 i) ||| (0 : Int32)) (nI (i + 1)) (by rw [itr_s]; simp [knS, c_11, c_21]) (rfl) ls (lv_sub hl [2, 3, 4, 1, 0] rfl)
        · skip
          refine lv_aload_n hx hb dX4_known_24 rfl (lv_at hl 0 rfl) ?_
          refine r_get (C := RX4) (T := TX4) (N := 7) hx hb hts in_X4 hown hK hI (cf_W (w := w) hw4) rfl 2 (by decide) (hts _ q229) (fun _ h => h) rfl dX4_known_25 ?_
          refine lv_iload_n hx hb dX4_known_28 rfl (lv_at hl 1 rfl) ?_
          refine n_aaldI (f := fun r => L (11 * w + 3 + r)) (k := r) hx hb hK hI (cf_glove (w := w) hw4) (rfl) (by omega) (by decide) dX4_known_29 ?_
          refine lv_iload hx hb dX4_known_30 (lv_at hl 4 rfl) ?_
          refine n_iald (k := i) hx hb hK hI (cf_row (w := w) (r := r) hw4 (by omega)) (rfl) (by omega) (by decide) dX4_known_32 ?_
          refine lv_goto (tgt := 37) hx hb dX4_known_33 (by decide) ?_
          refine lv_ior hx hb dX4_known_37 ?_
          refine lv_istore_n (lv' := [(3, .int ((itr (knS (x.1 w) r sm) 0 i) ||| (x.1 w (2 + r) i))), (0, .ref (L (11 * w))), (1, .int (nI r)), (2, .int sm), (4, .int (nI i))]) hx hb dX4_known_38 rfl hl (by decide) rfl (fun ls hl => ?_)
          refine lv_iinc (v := (nI (i + 1))) (lv' := [(4, .int (nI (i + 1))), (3, .int ((itr (knS (x.1 w) r sm) 0 i) ||| (x.1 w (2 + r) i))), (0, .ref (L (11 * w))), (1, .int (nI r)), (2, .int sm)]) hx hb dX4_known_39 hl (k := 4) rfl (nI_1 _) (by decide) rfl (fun ls hl => ?_)
          refine lv_goto (tgt := 5) hx hb dX4_known_42 (by decide) ?_
          exact ih5 (i + 1) (by omega) (by omega) ((itr (knS (x.1 w) r sm) 0 i) ||| (x.1 w (2 + r) i)) (nI (i + 1)) (by rw [itr_s]; simp [knS, c_11, c_21]) (rfl) ls (lv_sub hl [2, 3, 4, 1, 0] rfl)
  exact lp5 (_ + 1) (0) (Nat.zero_le _) (Nat.lt_succ_self _) 0 0 (rfl) (rfl) ls (lv_sub hl [2, 3, 4, 1, 0] rfl)
theorem k_X4_knownBoth {l : Launch} {D : va_G} {L : Nat → Nat} {A : Nat → Prop} (x : cst) (w : Nat) (hw4 : w < 4) (hO : wOk (x.1 w)) (sm : Int32) : Met l yX4_knownBoth (ws_ yX4_knownBoth cX4_knownBoth 2 (some .int)) ({ frames := 2, cells := 0, slots := 0, locals := 45 } : Room) (va_Pc [.ref (L (11 * w)), .int sm] (pI D (cfC D L x) A)) (rQ (.int (kbI (x.1 w) sm))) 0 0 nof := by
  refine met_I (by decide) rfl (Nat.le_of_ble_eq_true rfl) ?_
  intro p e s m below meth c ls hx hb hr hml hown hts hlocks hl hI hK
  have F : CallFix p m c cX4_knownBoth 2 s _ lw_all RX4 := ⟨hx, hb, hml, hown, hts⟩
  have hl : lv_has ls 2 [(0, .ref (L (11 * w))), (1, .int sm)] := hl
  refine lv_aload_n hx hb dX4_knownBoth_0 rfl (lv_at hl 0 rfl) ?_
  refine lv_iconst (v := 3) hx hb dX4_knownBoth_1 (by decide) ?_
  refine lv_iload_n hx hb dX4_knownBoth_2 rfl (lv_at hl 1 rfl) ?_
  refine c_r (k_V (As := [.int 3, .int sm]) (rest := []) F (k_X4_known x w hw4 (hO) 3 sm (by decide)) (cwV 2 hts (lw_V q759 q519 q520 q98 q521) rfl rfl rfl (by decide +kernel) ⟨Nat.le_of_ble_eq_true rfl, Nat.le_of_ble_eq_true rfl⟩) hI hK (hw.recv hI hK (cf_W (w := w) hw4) rfl) rfl hl.1 rfl (Nat.le_of_ble_eq_true rfl) dX4_knownBoth_3 ⟨Nat.le_of_ble_eq_true rfl, Nat.le_of_ble_eq_true rfl⟩) ?_
  refine lv_aload_n hx hb dX4_knownBoth_6 rfl (lv_at hl 0 rfl) ?_
  refine lv_iconst (v := 5) hx hb dX4_knownBoth_7 (by decide) ?_
  refine lv_iload_n hx hb dX4_knownBoth_8 rfl (lv_at hl 1 rfl) ?_
  refine c_r (k_V (As := [.int 5, .int sm]) (rest := [.int (knI (x.1 w) 3 sm)]) F (k_X4_known x w hw4 (hO) 5 sm (by decide)) (cwV 2 hts (lw_V q759 q519 q520 q98 q521) rfl rfl rfl (by decide +kernel) ⟨Nat.le_of_ble_eq_true rfl, Nat.le_of_ble_eq_true rfl⟩) hI hK (hw.recv hI hK (cf_W (w := w) hw4) rfl) rfl hl.1 rfl (Nat.le_of_ble_eq_true rfl) dX4_knownBoth_9 ⟨Nat.le_of_ble_eq_true rfl, Nat.le_of_ble_eq_true rfl⟩) ?_
  refine lv_ior hx hb dX4_knownBoth_12 ?_
  exact W.iret hx hb hr (fun t ht _ => ⟨rI (rfl), ht⟩) (fun q h => by cases h) dX4_knownBoth_13
theorem k_X4_whoKnows {l : Launch} {D : va_G} {L : Nat → Nat} {A : Nat → Prop} (x : cst) (w : Nat) (hw4 : w < 4) (hO : wOk (x.1 w)) (t : Int32) (r : Nat) (hr : r < 7) : Met l yX4_whoKnows (ws_ yX4_whoKnows cX4_whoKnows 5 (some .int)) ({ frames := 1, cells := 0, slots := 0, locals := 21 } : Room) (va_Pc [.ref (L (11 * w)), .int t, .int (nI r)] (pI D (cfC D L x) A)) (rQ (.int (woI (x.1 w) t r))) 0 0 nof := by
  refine met_I (by decide) rfl (Nat.le_of_ble_eq_true rfl) ?_
  intro p e s m below meth c ls hx hb hr hml hown hts hlocks hl hI hK
  have F : CallFix p m c cX4_whoKnows 5 s _ lw_all RX4 := ⟨hx, hb, hml, hown, hts⟩
  have hl : lv_has ls 5 [(0, .ref (L (11 * w))), (1, .int t), (2, .int (nI r))] := hl
  obtain ⟨n, hn, h8⟩ : ∃ n, x.1 w 1 0 = nI n ∧ n ≤ 8 := ⟨_, hO.n⟩
  have hN : wN (x.1 w) = n := by unfold wN; rw [hn, nI_clamp (by omega)]
  refine lv_iconst (v := 0) hx hb dX4_whoKnows_0 (by decide) ?_
  refine lv_istore_n (lv' := [(3, .int 0), (0, .ref (L (11 * w))), (1, .int t), (2, .int (nI r))]) hx hb dX4_whoKnows_1 rfl hl (by decide) rfl (fun ls hl => ?_)
  refine lv_iconst (v := 0) hx hb dX4_whoKnows_2 (by decide) ?_
  refine lv_istore (lv' := [(4, .int 0), (3, .int 0), (0, .ref (L (11 * w))), (1, .int t), (2, .int (nI r))]) hx hb dX4_whoKnows_3 hl (by decide) rfl (fun ls hl => ?_)
  have lp5 : ∀ (fuel : Nat) (i : Nat), (i ≤ n) → n - i < fuel → ∀ (v3 : Int32) (v4 : Int32), v3 = itr (woS (x.1 w) t r) 0 i → v4 = nI i → ∀ (ls : Array Slot), lv_has ls 5 [(0, .ref (L (11 * w))), (1, .int t), (2, .int (nI r)), (3, .int v3), (4, .int v4)] → W p l e ({ frames := 1, cells := 0, slots := 0, locals := 21 } : Room) s m ([.ref (L (11 * w)), .int t, .int (nI r)] : List Value).toArray below meth c s.heap [] 0 0 (MQ below (rQ (.int (woI (x.1 w) t r))) ([.ref (L (11 * w)), .int t, .int (nI r)] : List Value).toArray s 0 0 nof) (F0 m 5 ls []) := by
    intro fuel
    induction fuel with
    | zero => intro i hi hf; exact absurd hf (Nat.not_lt_zero _)
    | succ fuel ih5 =>
      intro i hi hf5 v3 v4 e3 e4  ls hl
      subst e3 e4
      refine lv_iload hx hb dX4_whoKnows_5 (lv_at hl 4 rfl) ?_
      refine lv_aload_n hx hb dX4_whoKnows_7 rfl (lv_at hl 0 rfl) ?_
      refine r_get (C := RX4) (T := TX4) (N := 7) hx hb hts in_X4 hown hK hI (cf_W (w := w) hw4) rfl 1 (by decide) (hts _ q226) (fun _ h => h) rfl dX4_whoKnows_8 ?_
      refine lv_icmp_ge (tgt := 47) hx hb dX4_whoKnows_11 (by decide) (fun c_11 => ?_) (fun c_11 => ?_)
      · skip
        have c_11 : n ≤ i := (nle (a := n) (b := i) (hn) (rfl) (by omega) (by omega)).mp c_11
        refine lv_iload_n hx hb dX4_whoKnows_47 rfl (lv_at hl 3 rfl) ?_
        exact W.iret hx hb hr (fun t ht _ => ⟨rI (by rw [woI, hN, show i = n by omega]), ht⟩) (fun q h => by cases h) dX4_whoKnows_48
      · skip
        have c_11 : ¬ n ≤ i := fun z => c_11 ((nle (a := n) (b := i) (hn) (rfl) (by omega) (by omega)).mpr z)
        refine lv_iload_n hx hb dX4_whoKnows_14 rfl (lv_at hl 3 rfl) ?_
        refine lv_aload_n hx hb dX4_whoKnows_15 rfl (lv_at hl 0 rfl) ?_
        refine r_get (C := RX4) (T := TX4) (N := 7) hx hb hts in_X4 hown hK hI (cf_W (w := w) hw4) rfl 2 (by decide) (hts _ q229) (fun _ h => h) rfl dX4_whoKnows_16 ?_
        refine lv_iload_n hx hb dX4_whoKnows_19 rfl (lv_at hl 2 rfl) ?_
        refine n_aaldI (f := fun r => L (11 * w + 3 + r)) (k := r) hx hb hK hI (cf_glove (w := w) hw4) (rfl) (by omega) (by decide) dX4_whoKnows_20 ?_
        refine lv_iload hx hb dX4_whoKnows_21 (lv_at hl 4 rfl) ?_
        refine n_iald (k := i) hx hb hK hI (cf_row (w := w) (r := r) hw4 (by omega)) (rfl) (by omega) (by decide) dX4_whoKnows_23 ?_
        refine lv_iload_n hx hb dX4_whoKnows_24 rfl (lv_at hl 1 rfl) ?_
        refine c_r (k_SN (As := [.int (x.1 w (2 + r) i), .int t]) (rest := [.int (itr (woS (x.1 w) t r) 0 i)]) F (k_X0_has (x.1 w (2 + r) i) t) ⟨va_cnB 2 hts (lw_meth q476) rfl rfl rfl (nm_3 hK) (hts _ q91) (by decide +kernel) ⟨Nat.le_of_ble_eq_true rfl, Nat.le_of_ble_eq_true rfl⟩, hts _ q475, trivial⟩ rfl hl.1 rfl (Nat.le_of_ble_eq_true rfl) dX4_whoKnows_25 ⟨Nat.le_of_ble_eq_true rfl, Nat.le_of_ble_eq_true rfl⟩) ?_
        refine lv_if_eq (tgt := 38) hx hb dX4_whoKnows_28 (by decide) (fun c_28 => ?_) (fun c_28 => ?_)
        · skip
          refine lv_iconst (v := 0) hx hb dX4_whoKnows_38 (by decide) ?_
          refine lv_ior hx hb dX4_whoKnows_39 ?_
          refine lv_istore_n (lv' := [(3, .int ((itr (woS (x.1 w) t r) 0 i) ||| (0 : Int32))), (0, .ref (L (11 * w))), (1, .int t), (2, .int (nI r)), (4, .int (nI i))]) hx hb dX4_whoKnows_40 rfl hl (by decide) rfl (fun ls hl => ?_)
          refine lv_iinc (v := (nI (i + 1))) (lv' := [(4, .int (nI (i + 1))), (3, .int ((itr (woS (x.1 w) t r) 0 i) ||| (0 : Int32))), (0, .ref (L (11 * w))), (1, .int t), (2, .int (nI r))]) hx hb dX4_whoKnows_41 hl (k := 4) rfl (nI_1 _) (by decide) rfl (fun ls hl => ?_)
          refine lv_goto (tgt := 5) hx hb dX4_whoKnows_44 (by decide) ?_
          exact ih5 (i + 1) (by omega) (by omega) ((itr (woS (x.1 w) t r) 0 i) ||| (0 : Int32)) (nI (i + 1)) (by rw [itr_s]; simp [woS, b1, c_11, c_28]) (rfl) ls (lv_sub hl [2, 3, 4, 1, 0] rfl)
        · skip
          refine lv_iconst (v := 1) hx hb dX4_whoKnows_31 (by decide) ?_
          refine lv_iload hx hb dX4_whoKnows_32 (lv_at hl 4 rfl) ?_
          refine lv_ishl hx hb dX4_whoKnows_34 ?_
          refine lv_goto (tgt := 39) hx hb dX4_whoKnows_35 (by decide) ?_
          refine lv_ior hx hb dX4_whoKnows_39 ?_
          refine lv_istore_n (lv' := [(3, .int ((itr (woS (x.1 w) t r) 0 i) ||| ((1 : Int32) <<< ((nI i) &&& 31)))), (0, .ref (L (11 * w))), (1, .int t), (2, .int (nI r)), (4, .int (nI i))]) hx hb dX4_whoKnows_40 rfl hl (by decide) rfl (fun ls hl => ?_)
          refine lv_iinc (v := (nI (i + 1))) (lv' := [(4, .int (nI (i + 1))), (3, .int ((itr (woS (x.1 w) t r) 0 i) ||| ((1 : Int32) <<< ((nI i) &&& 31)))), (0, .ref (L (11 * w))), (1, .int t), (2, .int (nI r))]) hx hb dX4_whoKnows_41 hl (k := 4) rfl (nI_1 _) (by decide) rfl (fun ls hl => ?_)
          refine lv_goto (tgt := 5) hx hb dX4_whoKnows_44 (by decide) ?_
          exact ih5 (i + 1) (by omega) (by omega) ((itr (woS (x.1 w) t r) 0 i) ||| ((1 : Int32) <<< ((nI i) &&& 31))) (nI (i + 1)) (by rw [itr_s]; simp [woS, b1, c_11, c_28]) (rfl) ls (lv_sub hl [2, 3, 4, 1, 0] rfl)
  exact lp5 (_ + 1) (0) (Nat.zero_le _) (Nat.lt_succ_self _) 0 0 (rfl) (rfl) ls (lv_sub hl [2, 3, 4, 1, 0] rfl)
theorem k_X4_drawnInAll {l : Launch} {D : va_G} {L : Nat → Nat} {A : Nat → Prop} (x : cst) (w : Nat) (hw4 : w < 4) (hO : wOk (x.1 w)) : Met l yX4_drawnInAll (ws_ yX4_drawnInAll cX4_drawnInAll 3 (some .int)) ({ frames := 0, cells := 0, slots := 0, locals := 0 } : Room) (va_Pc [.ref (L (11 * w))] (pI D (cfC D L x) A)) (rQ (.int (diI (x.1 w)))) 0 0 nof := by
  refine met_I (by decide) rfl (Nat.le_of_ble_eq_true rfl) ?_
  intro p e s m below meth c ls hx hb hr hml hown hts hlocks hl hI hK
  have F : CallFix p m c cX4_drawnInAll 3 s _ lw_all RX4 := ⟨hx, hb, hml, hown, hts⟩
  have hl : lv_has ls 3 [(0, .ref (L (11 * w)))] := hl
  obtain ⟨n, hn, h8⟩ : ∃ n, x.1 w 1 0 = nI n ∧ n ≤ 8 := ⟨_, hO.n⟩
  have hN : wN (x.1 w) = n := by unfold wN; rw [hn, nI_clamp (by omega)]
  refine lv_iconst (v := 0) hx hb dX4_drawnInAll_0 (by decide) ?_
  refine lv_istore_n (lv' := [(1, .int 0), (0, .ref (L (11 * w)))]) hx hb dX4_drawnInAll_1 rfl hl (by decide) rfl (fun ls hl => ?_)
  refine lv_iconst (v := 0) hx hb dX4_drawnInAll_2 (by decide) ?_
  refine lv_istore_n (lv' := [(2, .int 0), (1, .int 0), (0, .ref (L (11 * w)))]) hx hb dX4_drawnInAll_3 rfl hl (by decide) rfl (fun ls hl => ?_)
  have lp4 : ∀ (fuel : Nat) (i : Nat), (i ≤ n) → n - i < fuel → ∀ (v1 : Int32) (v2 : Int32), v1 = itr (diS (x.1 w)) 0 i → v2 = nI i → ∀ (ls : Array Slot), lv_has ls 3 [(0, .ref (L (11 * w))), (1, .int v1), (2, .int v2)] → W p l e ({ frames := 0, cells := 0, slots := 0, locals := 0 } : Room) s m ([.ref (L (11 * w))] : List Value).toArray below meth c s.heap [] 0 0 (MQ below (rQ (.int (diI (x.1 w)))) ([.ref (L (11 * w))] : List Value).toArray s 0 0 nof) (F0 m 4 ls []) := by
    intro fuel
    induction fuel with
    | zero => intro i hi hf; exact absurd hf (Nat.not_lt_zero _)
    | succ fuel ih4 =>
      intro i hi hf4 v1 v2 e1 e2  ls hl
      subst e1 e2
      refine lv_iload_n hx hb dX4_drawnInAll_4 rfl (lv_at hl 2 rfl) ?_
      refine lv_aload_n hx hb dX4_drawnInAll_5 rfl (lv_at hl 0 rfl) ?_
      refine r_get (C := RX4) (T := TX4) (N := 7) hx hb hts in_X4 hown hK hI (cf_W (w := w) hw4) rfl 1 (by decide) (hts _ q226) (fun _ h => h) rfl dX4_drawnInAll_6 ?_
      refine lv_icmp_ge (tgt := 30) hx hb dX4_drawnInAll_9 (by decide) (fun c_9 => ?_) (fun c_9 => ?_)
      · skip
        have c_9 : n ≤ i := (nle (a := n) (b := i) (hn) (rfl) (by omega) (by omega)).mp c_9
        refine lv_iload_n hx hb dX4_drawnInAll_30 rfl (lv_at hl 1 rfl) ?_
        exact W.iret hx hb hr (fun t ht _ => ⟨rI (by rw [diI, hN, show i = n by omega]), ht⟩) (fun q h => by cases h) dX4_drawnInAll_31
      · skip
        have c_9 : ¬ n ≤ i := fun z => c_9 ((nle (a := n) (b := i) (hn) (rfl) (by omega) (by omega)).mpr z)
        refine lv_iload_n hx hb dX4_drawnInAll_12 rfl (lv_at hl 1 rfl) ?_
        refine lv_aload_n hx hb dX4_drawnInAll_13 rfl (lv_at hl 0 rfl) ?_
        refine r_get (C := RX4) (T := TX4) (N := 7) hx hb hts in_X4 hown hK hI (cf_W (w := w) hw4) rfl 2 (by decide) (hts _ q229) (fun _ h => h) rfl dX4_drawnInAll_14 ?_
        refine lv_bipush (v := 6) hx hb dX4_drawnInAll_17 (by decide) ?_
        refine n_aaldI (f := fun r => L (11 * w + 3 + r)) (k := 6) hx hb hK hI (cf_glove (w := w) hw4) (rfl) (by decide) (by decide) dX4_drawnInAll_19 ?_
        refine lv_iload_n hx hb dX4_drawnInAll_20 rfl (lv_at hl 2 rfl) ?_
        refine n_iald (k := i) hx hb hK hI (cf_row (w := w) (r := 6) hw4 (by decide)) (rfl) (by omega) (by decide) dX4_drawnInAll_21 ?_
        refine lv_iadd hx hb dX4_drawnInAll_22 ?_
        refine lv_istore_n (lv' := [(1, .int ((itr (diS (x.1 w)) 0 i) + (x.1 w (2 + 6) i))), (0, .ref (L (11 * w))), (2, .int (nI i))]) hx hb dX4_drawnInAll_23 rfl hl (by decide) rfl (fun ls hl => ?_)
        refine lv_iinc (v := (nI (i + 1))) (lv' := [(2, .int (nI (i + 1))), (1, .int ((itr (diS (x.1 w)) 0 i) + (x.1 w (2 + 6) i))), (0, .ref (L (11 * w)))]) hx hb dX4_drawnInAll_24 hl (k := 2) rfl (nI_1 _) (by decide) rfl (fun ls hl => ?_)
        refine lv_goto (tgt := 4) hx hb dX4_drawnInAll_27 (by decide) ?_
        exact ih4 (i + 1) (by omega) (by omega) ((itr (diS (x.1 w)) 0 i) + (x.1 w (2 + 6) i)) (nI (i + 1)) (by rw [itr_s]; simp [diS, c_9]) (rfl) ls (lv_sub hl [2, 1, 0] rfl)
  exact lp4 (_ + 1) (0) (Nat.zero_le _) (Nat.lt_succ_self _) 0 0 (rfl) (rfl) ls (lv_sub hl [2, 1, 0] rfl)
theorem k_X4_all {l : Launch} {D : va_G} {L : Nat → Nat} {A : Nat → Prop} (x : cst) (w : Nat) (hw4 : w < 4) (hO : wOk (x.1 w)) : Met l yX4_all (ws_ yX4_all cX4_all 1 (some .int)) ({ frames := 0, cells := 0, slots := 0, locals := 0 } : Room) (va_Pc [.ref (L (11 * w))] (pI D (cfC D L x) A)) (rQ (.int (allI (x.1 w)))) 0 0 nof := by
  refine met_I (by decide) rfl (Nat.le_of_ble_eq_true rfl) ?_
  intro p e s m below meth c ls hx hb hr hml hown hts hlocks hl hI hK
  have F : CallFix p m c cX4_all 1 s _ lw_all RX4 := ⟨hx, hb, hml, hown, hts⟩
  have hl : lv_has ls 1 [(0, .ref (L (11 * w)))] := hl
  refine lv_iconst (v := 1) hx hb dX4_all_0 (by decide) ?_
  refine lv_aload_n hx hb dX4_all_1 rfl (lv_at hl 0 rfl) ?_
  refine r_get (C := RX4) (T := TX4) (N := 7) hx hb hts in_X4 hown hK hI (cf_W (w := w) hw4) rfl 1 (by decide) (hts _ q226) (fun _ h => h) rfl dX4_all_2 ?_
  refine lv_ishl hx hb dX4_all_5 ?_
  refine lv_iconst (v := 1) hx hb dX4_all_6 (by decide) ?_
  refine lv_isub hx hb dX4_all_7 ?_
  exact W.iret hx hb hr (fun t ht _ => ⟨rI (rfl), ht⟩) (fun q h => by cases h) dX4_all_8
theorem k_X4_now {l : Launch} {D : va_G} {L : Nat → Nat} {A : Nat → Prop} (x : cst) (w : Nat) (hw4 : w < 4) (hO : wOk (x.1 w)) : Met l yX4_now (ws_ yX4_now cX4_now 1 (some .int)) ({ frames := 0, cells := 0, slots := 0, locals := 0 } : Room) (va_Pc [.ref (L (11 * w))] (pI D (cfC D L x) A)) (rQ (.int (nwI (x.1 w)))) 0 0 nof := by
  refine met_I (by decide) rfl (Nat.le_of_ble_eq_true rfl) ?_
  intro p e s m below meth c ls hx hb hr hml hown hts hlocks hl hI hK
  have F : CallFix p m c cX4_now 1 s _ lw_all RX4 := ⟨hx, hb, hml, hown, hts⟩
  have hl : lv_has ls 1 [(0, .ref (L (11 * w)))] := hl
  obtain ⟨δ, hδ, hd⟩ := hO.2.2.2.1
  refine lv_aload_n hx hb dX4_now_0 rfl (lv_at hl 0 rfl) ?_
  refine r_get (C := RX4) (T := TX4) (N := 7) hx hb hts in_X4 hown hK hI (cf_W (w := w) hw4) rfl 0 (by decide) (hts _ q223) (fun _ h => h) rfl dX4_now_1 ?_
  refine lv_aload_n hx hb dX4_now_4 rfl (lv_at hl 0 rfl) ?_
  refine r_get (C := RX4) (T := TX4) (N := 7) hx hb hts in_X4 hown hK hI (cf_W (w := w) hw4) rfl 4 (by decide) (hts _ q235) (fun _ h => h) rfl dX4_now_5 ?_
  refine lv_bipush (v := 6) hx hb dX4_now_8 (by decide) ?_
  refine lv_irem hx hb dX4_now_10 (by decide) ?_
  refine n_iald (k := (δ % 6)) hx hb hK hI (cf_list (w := w) hw4) (by rw [hd]; exact pk_rem (d := 6) (by omega) (by decide) (by decide)) (by omega) (by decide) dX4_now_11 ?_
  exact W.iret hx hb hr (fun t ht _ => ⟨rI (by rw [nwI, hd, nI_clamp (by omega)]), ht⟩) (fun q h => by cases h) dX4_now_12
theorem k_X4_isLate {l : Launch} {D : va_G} {L : Nat → Nat} {A : Nat → Prop} (x : cst) (w : Nat) (hw4 : w < 4) (hO : wOk (x.1 w)) (n : Int32) : Met l yX4_isLate (ws_ yX4_isLate cX4_isLate 2 (some .boolean)) ({ frames := 0, cells := 0, slots := 0, locals := 0 } : Room) (va_Pc [.ref (L (11 * w)), .int n] (pI D (cfC D L x) A)) (rQ (.int (ltI (x.1 w) n))) 0 0 nof := by
  refine met_I (by decide) rfl (Nat.le_of_ble_eq_true rfl) ?_
  intro p e s m below meth c ls hx hb hr hml hown hts hlocks hl hI hK
  have F : CallFix p m c cX4_isLate 2 s _ lw_all RX4 := ⟨hx, hb, hml, hown, hts⟩
  have hl : lv_has ls 2 [(0, .ref (L (11 * w))), (1, .int n)] := hl
  refine lv_aload_n hx hb dX4_isLate_0 rfl (lv_at hl 0 rfl) ?_
  refine r_get (C := RX4) (T := TX4) (N := 7) hx hb hts in_X4 hown hK hI (cf_W (w := w) hw4) rfl 4 (by decide) (hts _ q235) (fun _ h => h) rfl dX4_isLate_1 ?_
  refine lv_iload_n hx hb dX4_isLate_4 rfl (lv_at hl 1 rfl) ?_
  refine lv_iadd hx hb dX4_isLate_5 ?_
  refine lv_ldc (v := 99999) hx hb hown (hts _ q704) dX4_isLate_6 ?_
  refine lv_icmp_le (tgt := 15) hx hb dX4_isLate_8 (by decide) (fun c_8 => ?_) (fun c_8 => ?_)
  · skip
    have c_8 := Int32.not_lt.mpr c_8
    refine lv_iconst (v := 0) hx hb dX4_isLate_15 (by decide) ?_
    exact W.zret hx hb hr (rfl) (fun t ht _ => ⟨rI (by simp [ltI, c_8]), ht⟩) (fun q h => by cases h) dX4_isLate_16
  · skip
    have c_8 := Int32.not_le.mp c_8
    refine lv_iconst (v := 1) hx hb dX4_isLate_11 (by decide) ?_
    refine lv_goto (tgt := 16) hx hb dX4_isLate_12 (by decide) ?_
    exact W.zret hx hb hr (rfl) (fun t ht _ => ⟨rI (by simp [ltI, c_8]), ht⟩) (fun q h => by cases h) dX4_isLate_16
theorem k_X4_wisest {l : Launch} {D : va_G} {L : Nat → Nat} {A : Nat → Prop} (x : cst) (w : Nat) (hw4 : w < 4) (hO : wOk (x.1 w)) : Met l yX4_wisest (ws_ yX4_wisest cX4_wisest 3 (some .int)) ({ frames := 2, cells := 0, slots := 0, locals := 40 } : Room) (va_Pc [.ref (L (11 * w))] (pI D (cfC D L x) A)) (rQ (.int (wiI (x.1 w)))) 0 0 nof := by
  refine met_I (by decide) rfl (Nat.le_of_ble_eq_true rfl) ?_
  intro p e s m below meth c ls hx hb hr hml hown hts hlocks hl hI hK
  have F : CallFix p m c cX4_wisest 3 s _ lw_all RX4 := ⟨hx, hb, hml, hown, hts⟩
  have hl : lv_has ls 3 [(0, .ref (L (11 * w)))] := hl
  obtain ⟨n, hn, h8⟩ : ∃ n, x.1 w 1 0 = nI n ∧ n ≤ 8 := ⟨_, hO.n⟩
  have hN : wN (x.1 w) = n := by unfold wN; rw [hn, nI_clamp (by omega)]
  refine lv_iconst (v := (-1)) hx hb dX4_wisest_0 (by decide) ?_
  refine lv_istore_n (lv' := [(1, .int (-1)), (0, .ref (L (11 * w)))]) hx hb dX4_wisest_1 rfl hl (by decide) rfl (fun ls hl => ?_)
  refine lv_iconst (v := 0) hx hb dX4_wisest_2 (by decide) ?_
  refine lv_istore_n (lv' := [(2, .int 0), (1, .int (-1)), (0, .ref (L (11 * w)))]) hx hb dX4_wisest_3 rfl hl (by decide) rfl (fun ls hl => ?_)
  have lp4 : ∀ (fuel : Nat) (i : Nat), (i ≤ n) → n - i < fuel → ∀ (v1 : Int32) (v2 : Int32), v1 = itr (wiS (x.1 w)) (-1) i → v2 = nI i → ∀ (ls : Array Slot), lv_has ls 3 [(0, .ref (L (11 * w))), (1, .int v1), (2, .int v2)] → W p l e ({ frames := 2, cells := 0, slots := 0, locals := 40 } : Room) s m ([.ref (L (11 * w))] : List Value).toArray below meth c s.heap [] 0 0 (MQ below (rQ (.int (wiI (x.1 w)))) ([.ref (L (11 * w))] : List Value).toArray s 0 0 nof) (F0 m 4 ls []) := by
    intro fuel
    induction fuel with
    | zero => intro i hi hf; exact absurd hf (Nat.not_lt_zero _)
    | succ fuel ih4 =>
      intro i hi hf4 v1 v2 e1 e2  ls hl
      subst e1 e2
      refine lv_iload_n hx hb dX4_wisest_4 rfl (lv_at hl 2 rfl) ?_
      refine lv_aload_n hx hb dX4_wisest_5 rfl (lv_at hl 0 rfl) ?_
      refine r_get (C := RX4) (T := TX4) (N := 7) hx hb hts in_X4 hown hK hI (cf_W (w := w) hw4) rfl 1 (by decide) (hts _ q226) (fun _ h => h) rfl dX4_wisest_6 ?_
      refine lv_icmp_ge (tgt := 54) hx hb dX4_wisest_9 (by decide) (fun c_9 => ?_) (fun c_9 => ?_)
      · skip
        have c_9 : n ≤ i := (nle (a := n) (b := i) (hn) (rfl) (by omega) (by omega)).mp c_9
        refine lv_iload_n hx hb dX4_wisest_54 rfl (lv_at hl 1 rfl) ?_
        exact W.iret hx hb hr (fun t ht _ => ⟨rI (by rw [wiI, hN, show i = n by omega]), ht⟩) (fun q h => by cases h) dX4_wisest_55
      · skip
        have c_9 : ¬ n ≤ i := fun z => c_9 ((nle (a := n) (b := i) (hn) (rfl) (by omega) (by omega)).mpr z)
        refine lv_iload_n hx hb dX4_wisest_12 rfl (lv_at hl 1 rfl) ?_
        refine lv_iconst (v := (-1)) hx hb dX4_wisest_13 (by decide) ?_
        refine lv_icmp_eq (tgt := 42) hx hb dX4_wisest_14 (by decide) (fun c_14 => ?_) (fun c_14 => ?_)
        · skip
          refine lv_iload_n hx hb dX4_wisest_42 rfl (lv_at hl 2 rfl) ?_
          refine lv_goto (tgt := 47) hx hb dX4_wisest_43 (by decide) ?_
          refine lv_istore_n (lv' := [(1, .int (nI i)), (0, .ref (L (11 * w))), (2, .int (nI i))]) hx hb dX4_wisest_47 rfl hl (by decide) rfl (fun ls hl => ?_)
          refine lv_iinc (v := (nI (i + 1))) (lv' := [(2, .int (nI (i + 1))), (1, .int (nI i)), (0, .ref (L (11 * w)))]) hx hb dX4_wisest_48 hl (k := 2) rfl (nI_1 _) (by decide) rfl (fun ls hl => ?_)
          refine lv_goto (tgt := 4) hx hb dX4_wisest_51 (by decide) ?_
          exact ih4 (i + 1) (by omega) (by omega) (nI i) (nI (i + 1)) (by rw [itr_s]; first | (simp [wiS, c_9, c_14]; done) | (simp [wiS, c_9, c_14, hj2]; done)) (rfl) ls (lv_sub hl [2, 1, 0] rfl)
        · skip
          obtain ⟨j, hj, ej⟩ := (wiS_in (x.1 w) i).resolve_left c_14
          have hj2 : (itr (wiS (x.1 w)) (-1) i).toNatClampNeg = j := by rw [ej, nI_clamp (by omega)]
          refine lv_aload_n hx hb dX4_wisest_17 rfl (lv_at hl 0 rfl) ?_
          refine r_get (C := RX4) (T := TX4) (N := 7) hx hb hts in_X4 hown hK hI (cf_W (w := w) hw4) rfl 2 (by decide) (hts _ q229) (fun _ h => h) rfl dX4_wisest_18 ?_
          refine lv_iconst (v := 5) hx hb dX4_wisest_21 (by decide) ?_
          refine n_aaldI (f := fun r => L (11 * w + 3 + r)) (k := 5) hx hb hK hI (cf_glove (w := w) hw4) (rfl) (by decide) (by decide) dX4_wisest_22 ?_
          refine lv_iload_n hx hb dX4_wisest_23 rfl (lv_at hl 2 rfl) ?_
          refine n_iald (k := i) hx hb hK hI (cf_row (w := w) (r := 5) hw4 (by decide)) (rfl) (by omega) (by decide) dX4_wisest_24 ?_
          refine c_r (k_SN (As := [.int (x.1 w (2 + 5) i)]) (rest := []) F (k_X0_ones (x.1 w (2 + 5) i)) ⟨va_cnB 1 hts (lw_meth q735) rfl rfl rfl (nm_6 hK) (hts _ q91) (by decide +kernel) ⟨Nat.le_of_ble_eq_true rfl, Nat.le_of_ble_eq_true rfl⟩, hts _ q734, trivial⟩ rfl hl.1 rfl (Nat.le_of_ble_eq_true rfl) dX4_wisest_25 ⟨Nat.le_of_ble_eq_true rfl, Nat.le_of_ble_eq_true rfl⟩) ?_
          refine lv_aload_n hx hb dX4_wisest_28 rfl (lv_at hl 0 rfl) ?_
          refine r_get (C := RX4) (T := TX4) (N := 7) hx hb hts in_X4 hown hK hI (cf_W (w := w) hw4) rfl 2 (by decide) (hts _ q229) (fun _ h => h) rfl dX4_wisest_29 ?_
          refine lv_iconst (v := 5) hx hb dX4_wisest_32 (by decide) ?_
          refine n_aaldI (f := fun r => L (11 * w + 3 + r)) (k := 5) hx hb hK hI (cf_glove (w := w) hw4) (rfl) (by decide) (by decide) dX4_wisest_33 ?_
          refine lv_iload_n hx hb dX4_wisest_34 rfl (lv_at hl 1 rfl) ?_
          refine n_iald (k := j) hx hb hK hI (cf_row (w := w) (r := 5) hw4 (by decide)) (ej) (by omega) (by decide) dX4_wisest_35 ?_
          refine c_r (k_SN (As := [.int (x.1 w (2 + 5) j)]) (rest := [.int (bcI (x.1 w (2 + 5) i))]) F (k_X0_ones (x.1 w (2 + 5) j)) ⟨va_cnB 1 hts (lw_meth q735) rfl rfl rfl (nm_6 hK) (hts _ q91) (by decide +kernel) ⟨Nat.le_of_ble_eq_true rfl, Nat.le_of_ble_eq_true rfl⟩, hts _ q734, trivial⟩ rfl hl.1 rfl (Nat.le_of_ble_eq_true rfl) dX4_wisest_36 ⟨Nat.le_of_ble_eq_true rfl, Nat.le_of_ble_eq_true rfl⟩) ?_
          refine lv_icmp_le (tgt := 46) hx hb dX4_wisest_39 (by decide) (fun c_39 => ?_) (fun c_39 => ?_)
          · skip
            have c_39 := Int32.not_lt.mpr c_39
            refine lv_iload_n hx hb dX4_wisest_46 rfl (lv_at hl 1 rfl) ?_
            refine lv_istore_n (lv' := [(1, .int (itr (wiS (x.1 w)) (-1) i)), (0, .ref (L (11 * w))), (2, .int (nI i))]) hx hb dX4_wisest_47 rfl hl (by decide) rfl (fun ls hl => ?_)
            refine lv_iinc (v := (nI (i + 1))) (lv' := [(2, .int (nI (i + 1))), (1, .int (itr (wiS (x.1 w)) (-1) i)), (0, .ref (L (11 * w)))]) hx hb dX4_wisest_48 hl (k := 2) rfl (nI_1 _) (by decide) rfl (fun ls hl => ?_)
            refine lv_goto (tgt := 4) hx hb dX4_wisest_51 (by decide) ?_
            exact ih4 (i + 1) (by omega) (by omega) (itr (wiS (x.1 w)) (-1) i) (nI (i + 1)) (by rw [itr_s]; first | (simp [wiS, c_9, c_14, c_39]; done) | (simp [wiS, c_9, c_14, c_39, hj2]; done)) (rfl) ls (lv_sub hl [2, 1, 0] rfl)
          · skip
            have c_39 := Int32.not_le.mp c_39
            refine lv_iload_n hx hb dX4_wisest_42 rfl (lv_at hl 2 rfl) ?_
            refine lv_goto (tgt := 47) hx hb dX4_wisest_43 (by decide) ?_
            refine lv_istore_n (lv' := [(1, .int (nI i)), (0, .ref (L (11 * w))), (2, .int (nI i))]) hx hb dX4_wisest_47 rfl hl (by decide) rfl (fun ls hl => ?_)
            refine lv_iinc (v := (nI (i + 1))) (lv' := [(2, .int (nI (i + 1))), (1, .int (nI i)), (0, .ref (L (11 * w)))]) hx hb dX4_wisest_48 hl (k := 2) rfl (nI_1 _) (by decide) rfl (fun ls hl => ?_)
            refine lv_goto (tgt := 4) hx hb dX4_wisest_51 (by decide) ?_
            exact ih4 (i + 1) (by omega) (by omega) (nI i) (nI (i + 1)) (by rw [itr_s]; first | (simp [wiS, c_9, c_14, c_39]; done) | (simp [wiS, c_9, c_14, c_39, hj2]; done)) (rfl) ls (lv_sub hl [2, 1, 0] rfl)
  exact lp4 (_ + 1) (0) (Nat.zero_le _) (Nat.lt_succ_self _) (-1) 0 (rfl) (rfl) ls (lv_sub hl [2, 1, 0] rfl)
