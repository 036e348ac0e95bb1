/-! LeftGloves: static helpers -/
theorem k_X0_in {l : Launch} (v lo hi : Int32) : Met l yX0_in (ws_ yX0_in cX0_in 3 (some .boolean)) ({ frames := 0, cells := 0, slots := 0, locals := 0 } : Room) (va_Pc [.int v, .int lo, .int hi] pT) (rQ (.int (inI v lo hi))) 0 0 nof := by
  refine met_T (by decide) rfl (Nat.le_of_ble_eq_true rfl) ?_
  intro p e s m below meth c ls hx hb hr hml hown hts hlocks hl
  have F : CallFix p m c cX0_in 3 s _ lw_all RX0 := ⟨hx, hb, hml, hown, hts⟩
  have hl : lv_has ls 3 [(0, .int v), (1, .int lo), (2, .int hi)] := hl
  refine lv_iload_n hx hb dX0_in_0 rfl (lv_at hl 0 rfl) ?_
  refine lv_iload_n hx hb dX0_in_1 rfl (lv_at hl 1 rfl) ?_
  refine lv_icmp_lt (tgt := 14) hx hb dX0_in_2 (by decide) (fun c_2 => ?_) (fun c_2 => ?_)
  · skip
    refine lv_iconst (v := 0) hx hb dX0_in_14 (by decide) ?_
    exact W.zret hx hb hr (rfl) (fun t ht _ => ⟨rI (by simp [inI, c_2]), ht⟩) (fun q h => by cases h) dX0_in_15
  · skip
    refine lv_iload_n hx hb dX0_in_5 rfl (lv_at hl 0 rfl) ?_
    refine lv_iload_n hx hb dX0_in_6 rfl (lv_at hl 2 rfl) ?_
    refine lv_icmp_gt (tgt := 14) hx hb dX0_in_7 (by decide) (fun c_7 => ?_) (fun c_7 => ?_)
    · skip
      refine lv_iconst (v := 0) hx hb dX0_in_14 (by decide) ?_
      exact W.zret hx hb hr (rfl) (fun t ht _ => ⟨rI (by simp [inI, c_2, c_7]), ht⟩) (fun q h => by cases h) dX0_in_15
    · skip
      refine lv_iconst (v := 1) hx hb dX0_in_10 (by decide) ?_
      refine lv_goto (tgt := 15) hx hb dX0_in_11 (by decide) ?_
      exact W.zret hx hb hr (rfl) (fun t ht _ => ⟨rI (by simp [inI, c_2, c_7]), ht⟩) (fun q h => by cases h) dX0_in_15
theorem k_X0_has {l : Launch} (set k : Int32) : Met l yX0_has (ws_ yX0_has cX0_has 2 (some .boolean)) ({ frames := 0, cells := 0, slots := 0, locals := 0 } : Room) (va_Pc [.int set, .int k] pT) (rQ (.int (hsI set k))) 0 0 nof := by
  refine met_T (by decide) rfl (Nat.le_of_ble_eq_true rfl) ?_
  intro p e s m below meth c ls hx hb hr hml hown hts hlocks hl
  have F : CallFix p m c cX0_has 2 s _ lw_all RX0 := ⟨hx, hb, hml, hown, hts⟩
  have hl : lv_has ls 2 [(0, .int set), (1, .int k)] := hl
  refine lv_iload_n hx hb dX0_has_0 rfl (lv_at hl 0 rfl) ?_
  refine lv_iload_n hx hb dX0_has_1 rfl (lv_at hl 1 rfl) ?_
  refine lv_ishr hx hb dX0_has_2 ?_
  refine lv_iconst (v := 1) hx hb dX0_has_3 (by decide) ?_
  refine lv_iand hx hb dX0_has_4 ?_
  refine lv_iconst (v := 1) hx hb dX0_has_5 (by decide) ?_
  refine lv_icmp_ne (tgt := 13) hx hb dX0_has_6 (by decide) (fun c_6 => ?_) (fun c_6 => ?_)
  · skip
    refine lv_iconst (v := 0) hx hb dX0_has_13 (by decide) ?_
    exact W.zret hx hb hr (rfl) (fun t ht _ => ⟨rI (by simp [hsI, c_6]), ht⟩) (fun q h => by cases h) dX0_has_14
  · skip
    refine lv_iconst (v := 1) hx hb dX0_has_9 (by decide) ?_
    refine lv_goto (tgt := 14) hx hb dX0_has_10 (by decide) ?_
    exact W.zret hx hb hr (rfl) (fun t ht _ => ⟨rI (by simp [hsI, c_6]), ht⟩) (fun q h => by cases h) dX0_has_14
theorem k_J4_bitCount {l : Launch} (i : Int32) : Met l yJ4_bitCount (ws_ yJ4_bitCount cJ4_bitCount 1 (some .int)) ({ frames := 0, cells := 0, slots := 0, locals := 0 } : Room) (va_Pc [.int i] pT) (rQ (.int (bcI i))) 0 0 nof := by
  refine met_T (by decide) rfl (Nat.le_of_ble_eq_true rfl) ?_
  intro p e s m below meth c ls hx hb hr hml hown hts hlocks hl
  have F : CallFix p m c cJ4_bitCount 1 s _ lw_all RJ4 := ⟨hx, hb, hml, hown, hts⟩
  have hl : lv_has ls 1 [(0, .int i)] := hl
  refine lv_iload_n hx hb dJ4_bitCount_0 rfl (lv_at hl 0 rfl) ?_
  refine lv_iload_n hx hb dJ4_bitCount_1 rfl (lv_at hl 0 rfl) ?_
  refine lv_iconst (v := 1) hx hb dJ4_bitCount_2 (by decide) ?_
  refine lv_iushr (v := (i.toUInt32 >>> ((1 : Int32).toUInt32 &&& Int32.toUInt32 31)).toInt32) hx hb dJ4_bitCount_3 rfl ?_
  refine lv_ldcw (v := 1431655765) hx hb hown (hts _ q739) dJ4_bitCount_4 ?_
  refine lv_iand hx hb dJ4_bitCount_7 ?_
  refine lv_isub hx hb dJ4_bitCount_8 ?_
  refine lv_istore_n (lv' := [(0, .int (i - (((i.toUInt32 >>> ((1 : Int32).toUInt32 &&& Int32.toUInt32 31)).toInt32) &&& (1431655765 : Int32))))]) hx hb dJ4_bitCount_9 rfl hl (by decide) rfl (fun ls hl => ?_)
  refine lv_iload_n hx hb dJ4_bitCount_10 rfl (lv_at hl 0 rfl) ?_
  refine lv_ldcw (v := 858993459) hx hb hown (hts _ q740) dJ4_bitCount_11 ?_
  refine lv_iand hx hb dJ4_bitCount_14 ?_
  refine lv_iload_n hx hb dJ4_bitCount_15 rfl (lv_at hl 0 rfl) ?_
  refine lv_iconst (v := 2) hx hb dJ4_bitCount_16 (by decide) ?_
  refine lv_iushr (v := ((i - (((i.toUInt32 >>> ((1 : Int32).toUInt32 &&& Int32.toUInt32 31)).toInt32) &&& (1431655765 : Int32))).toUInt32 >>> ((2 : Int32).toUInt32 &&& Int32.toUInt32 31)).toInt32) hx hb dJ4_bitCount_17 rfl ?_
  refine lv_ldcw (v := 858993459) hx hb hown (hts _ q740) dJ4_bitCount_18 ?_
  refine lv_iand hx hb dJ4_bitCount_21 ?_
  refine lv_iadd hx hb dJ4_bitCount_22 ?_
  refine lv_istore_n (lv' := [(0, .int (((i - (((i.toUInt32 >>> ((1 : Int32).toUInt32 &&& Int32.toUInt32 31)).toInt32) &&& (1431655765 : Int32))) &&& (858993459 : Int32)) + ((((i - (((i.toUInt32 >>> ((1 : Int32).toUInt32 &&& Int32.toUInt32 31)).toInt32) &&& (1431655765 : Int32))).toUInt32 >>> ((2 : Int32).toUInt32 &&& Int32.toUInt32 31)).toInt32) &&& (858993459 : Int32))))]) hx hb dJ4_bitCount_23 rfl hl (by decide) rfl (fun ls hl => ?_)
  refine lv_iload_n hx hb dJ4_bitCount_24 rfl (lv_at hl 0 rfl) ?_
  refine lv_iload_n hx hb dJ4_bitCount_25 rfl (lv_at hl 0 rfl) ?_
  refine lv_iconst (v := 4) hx hb dJ4_bitCount_26 (by decide) ?_
  refine lv_iushr (v := ((((i - (((i.toUInt32 >>> ((1 : Int32).toUInt32 &&& Int32.toUInt32 31)).toInt32) &&& (1431655765 : Int32))) &&& (858993459 : Int32)) + ((((i - (((i.toUInt32 >>> ((1 : Int32).toUInt32 &&& Int32.toUInt32 31)).toInt32) &&& (1431655765 : Int32))).toUInt32 >>> ((2 : Int32).toUInt32 &&& Int32.toUInt32 31)).toInt32) &&& (858993459 : Int32))).toUInt32 >>> ((4 : Int32).toUInt32 &&& Int32.toUInt32 31)).toInt32) hx hb dJ4_bitCount_27 rfl ?_
  refine lv_iadd hx hb dJ4_bitCount_28 ?_
  refine lv_ldcw (v := 252645135) hx hb hown (hts _ q741) dJ4_bitCount_29 ?_
  refine lv_iand hx hb dJ4_bitCount_32 ?_
  refine lv_istore_n (lv' := [(0, .int (((((i - (((i.toUInt32 >>> ((1 : Int32).toUInt32 &&& Int32.toUInt32 31)).toInt32) &&& (1431655765 : Int32))) &&& (858993459 : Int32)) + ((((i - (((i.toUInt32 >>> ((1 : Int32).toUInt32 &&& Int32.toUInt32 31)).toInt32) &&& (1431655765 : Int32))).toUInt32 >>> ((2 : Int32).toUInt32 &&& Int32.toUInt32 31)).toInt32) &&& (858993459 : Int32))) + (((((i - (((i.toUInt32 >>> ((1 : Int32).toUInt32 &&& Int32.toUInt32 31)).toInt32) &&& (1431655765 : Int32))) &&& (858993459 : Int32)) + ((((i - (((i.toUInt32 >>> ((1 : Int32).toUInt32 &&& Int32.toUInt32 31)).toInt32) &&& (1431655765 : Int32))).toUInt32 >>> ((2 : Int32).toUInt32 &&& Int32.toUInt32 31)).toInt32) &&& (858993459 : Int32))).toUInt32 >>> ((4 : Int32).toUInt32 &&& Int32.toUInt32 31)).toInt32)) &&& (252645135 : Int32)))]) hx hb dJ4_bitCount_33 rfl hl (by decide) rfl (fun ls hl => ?_)
  refine lv_iload_n hx hb dJ4_bitCount_34 rfl (lv_at hl 0 rfl) ?_
  refine lv_iload_n hx hb dJ4_bitCount_35 rfl (lv_at hl 0 rfl) ?_
  refine lv_bipush (v := 8) hx hb dJ4_bitCount_36 (by decide) ?_
  refine lv_iushr (v := ((((((i - (((i.toUInt32 >>> ((1 : Int32).toUInt32 &&& Int32.toUInt32 31)).toInt32) &&& (1431655765 : Int32))) &&& (858993459 : Int32)) + ((((i - (((i.toUInt32 >>> ((1 : Int32).toUInt32 &&& Int32.toUInt32 31)).toInt32) &&& (1431655765 : Int32))).toUInt32 >>> ((2 : Int32).toUInt32 &&& Int32.toUInt32 31)).toInt32) &&& (858993459 : Int32))) + (((((i - (((i.toUInt32 >>> ((1 : Int32).toUInt32 &&& Int32.toUInt32 31)).toInt32) &&& (1431655765 : Int32))) &&& (858993459 : Int32)) + ((((i - (((i.toUInt32 >>> ((1 : Int32).toUInt32 &&& Int32.toUInt32 31)).toInt32) &&& (1431655765 : Int32))).toUInt32 >>> ((2 : Int32).toUInt32 &&& Int32.toUInt32 31)).toInt32) &&& (858993459 : Int32))).toUInt32 >>> ((4 : Int32).toUInt32 &&& Int32.toUInt32 31)).toInt32)) &&& (252645135 : Int32)).toUInt32 >>> ((8 : Int32).toUInt32 &&& Int32.toUInt32 31)).toInt32) hx hb dJ4_bitCount_38 rfl ?_
  refine lv_iadd hx hb dJ4_bitCount_39 ?_
  refine lv_istore_n (lv' := [(0, .int ((((((i - (((i.toUInt32 >>> ((1 : Int32).toUInt32 &&& Int32.toUInt32 31)).toInt32) &&& (1431655765 : Int32))) &&& (858993459 : Int32)) + ((((i - (((i.toUInt32 >>> ((1 : Int32).toUInt32 &&& Int32.toUInt32 31)).toInt32) &&& (1431655765 : Int32))).toUInt32 >>> ((2 : Int32).toUInt32 &&& Int32.toUInt32 31)).toInt32) &&& (858993459 : Int32))) + (((((i - (((i.toUInt32 >>> ((1 : Int32).toUInt32 &&& Int32.toUInt32 31)).toInt32) &&& (1431655765 : Int32))) &&& (858993459 : Int32)) + ((((i - (((i.toUInt32 >>> ((1 : Int32).toUInt32 &&& Int32.toUInt32 31)).toInt32) &&& (1431655765 : Int32))).toUInt32 >>> ((2 : Int32).toUInt32 &&& Int32.toUInt32 31)).toInt32) &&& (858993459 : Int32))).toUInt32 >>> ((4 : Int32).toUInt32 &&& Int32.toUInt32 31)).toInt32)) &&& (252645135 : Int32)) + (((((((i - (((i.toUInt32 >>> ((1 : Int32).toUInt32 &&& Int32.toUInt32 31)).toInt32) &&& (1431655765 : Int32))) &&& (858993459 : Int32)) + ((((i - (((i.toUInt32 >>> ((1 : Int32).toUInt32 &&& Int32.toUInt32 31)).toInt32) &&& (1431655765 : Int32))).toUInt32 >>> ((2 : Int32).toUInt32 &&& Int32.toUInt32 31)).toInt32) &&& (858993459 : Int32))) + (((((i - (((i.toUInt32 >>> ((1 : Int32).toUInt32 &&& Int32.toUInt32 31)).toInt32) &&& (1431655765 : Int32))) &&& (858993459 : Int32)) + ((((i - (((i.toUInt32 >>> ((1 : Int32).toUInt32 &&& Int32.toUInt32 31)).toInt32) &&& (1431655765 : Int32))).toUInt32 >>> ((2 : Int32).toUInt32 &&& Int32.toUInt32 31)).toInt32) &&& (858993459 : Int32))).toUInt32 >>> ((4 : Int32).toUInt32 &&& Int32.toUInt32 31)).toInt32)) &&& (252645135 : Int32)).toUInt32 >>> ((8 : Int32).toUInt32 &&& Int32.toUInt32 31)).toInt32)))]) hx hb dJ4_bitCount_40 rfl hl (by decide) rfl (fun ls hl => ?_)
  refine lv_iload_n hx hb dJ4_bitCount_41 rfl (lv_at hl 0 rfl) ?_
  refine lv_iload_n hx hb dJ4_bitCount_42 rfl (lv_at hl 0 rfl) ?_
  refine lv_bipush (v := 16) hx hb dJ4_bitCount_43 (by decide) ?_
  refine lv_iushr (v := (((((((i - (((i.toUInt32 >>> ((1 : Int32).toUInt32 &&& Int32.toUInt32 31)).toInt32) &&& (1431655765 : Int32))) &&& (858993459 : Int32)) + ((((i - (((i.toUInt32 >>> ((1 : Int32).toUInt32 &&& Int32.toUInt32 31)).toInt32) &&& (1431655765 : Int32))).toUInt32 >>> ((2 : Int32).toUInt32 &&& Int32.toUInt32 31)).toInt32) &&& (858993459 : Int32))) + (((((i - (((i.toUInt32 >>> ((1 : Int32).toUInt32 &&& Int32.toUInt32 31)).toInt32) &&& (1431655765 : Int32))) &&& (858993459 : Int32)) + ((((i - (((i.toUInt32 >>> ((1 : Int32).toUInt32 &&& Int32.toUInt32 31)).toInt32) &&& (1431655765 : Int32))).toUInt32 >>> ((2 : Int32).toUInt32 &&& Int32.toUInt32 31)).toInt32) &&& (858993459 : Int32))).toUInt32 >>> ((4 : Int32).toUInt32 &&& Int32.toUInt32 31)).toInt32)) &&& (252645135 : Int32)) + (((((((i - (((i.toUInt32 >>> ((1 : Int32).toUInt32 &&& Int32.toUInt32 31)).toInt32) &&& (1431655765 : Int32))) &&& (858993459 : Int32)) + ((((i - (((i.toUInt32 >>> ((1 : Int32).toUInt32 &&& Int32.toUInt32 31)).toInt32) &&& (1431655765 : Int32))).toUInt32 >>> ((2 : Int32).toUInt32 &&& Int32.toUInt32 31)).toInt32) &&& (858993459 : Int32))) + (((((i - (((i.toUInt32 >>> ((1 : Int32).toUInt32 &&& Int32.toUInt32 31)).toInt32) &&& (1431655765 : Int32))) &&& (858993459 : Int32)) + ((((i - (((i.toUInt32 >>> ((1 : Int32).toUInt32 &&& Int32.toUInt32 31)).toInt32) &&& (1431655765 : Int32))).toUInt32 >>> ((2 : Int32).toUInt32 &&& Int32.toUInt32 31)).toInt32) &&& (858993459 : Int32))).toUInt32 >>> ((4 : Int32).toUInt32 &&& Int32.toUInt32 31)).toInt32)) &&& (252645135 : Int32)).toUInt32 >>> ((8 : Int32).toUInt32 &&& Int32.toUInt32 31)).toInt32)).toUInt32 >>> ((16 : Int32).toUInt32 &&& Int32.toUInt32 31)).toInt32) hx hb dJ4_bitCount_45 rfl ?_
  refine lv_iadd hx hb dJ4_bitCount_46 ?_
  refine lv_istore_n (lv' := [(0, .int (((((((i - (((i.toUInt32 >>> ((1 : Int32).toUInt32 &&& Int32.toUInt32 31)).toInt32) &&& (1431655765 : Int32))) &&& (858993459 : Int32)) + ((((i - (((i.toUInt32 >>> ((1 : Int32).toUInt32 &&& Int32.toUInt32 31)).toInt32) &&& (1431655765 : Int32))).toUInt32 >>> ((2 : Int32).toUInt32 &&& Int32.toUInt32 31)).toInt32) &&& (858993459 : Int32))) + (((((i - (((i.toUInt32 >>> ((1 : Int32).toUInt32 &&& Int32.toUInt32 31)).toInt32) &&& (1431655765 : Int32))) &&& (858993459 : Int32)) + ((((i - (((i.toUInt32 >>> ((1 : Int32).toUInt32 &&& Int32.toUInt32 31)).toInt32) &&& (1431655765 : Int32))).toUInt32 >>> ((2 : Int32).toUInt32 &&& Int32.toUInt32 31)).toInt32) &&& (858993459 : Int32))).toUInt32 >>> ((4 : Int32).toUInt32 &&& Int32.toUInt32 31)).toInt32)) &&& (252645135 : Int32)) + (((((((i - (((i.toUInt32 >>> ((1 : Int32).toUInt32 &&& Int32.toUInt32 31)).toInt32) &&& (1431655765 : Int32))) &&& (858993459 : Int32)) + ((((i - (((i.toUInt32 >>> ((1 : Int32).toUInt32 &&& Int32.toUInt32 31)).toInt32) &&& (1431655765 : Int32))).toUInt32 >>> ((2 : Int32).toUInt32 &&& Int32.toUInt32 31)).toInt32) &&& (858993459 : Int32))) + (((((i - (((i.toUInt32 >>> ((1 : Int32).toUInt32 &&& Int32.toUInt32 31)).toInt32) &&& (1431655765 : Int32))) &&& (858993459 : Int32)) + ((((i - (((i.toUInt32 >>> ((1 : Int32).toUInt32 &&& Int32.toUInt32 31)).toInt32) &&& (1431655765 : Int32))).toUInt32 >>> ((2 : Int32).toUInt32 &&& Int32.toUInt32 31)).toInt32) &&& (858993459 : Int32))).toUInt32 >>> ((4 : Int32).toUInt32 &&& Int32.toUInt32 31)).toInt32)) &&& (252645135 : Int32)).toUInt32 >>> ((8 : Int32).toUInt32 &&& Int32.toUInt32 31)).toInt32)) + ((((((((i - (((i.toUInt32 >>> ((1 : Int32).toUInt32 &&& Int32.toUInt32 31)).toInt32) &&& (1431655765 : Int32))) &&& (858993459 : Int32)) + ((((i - (((i.toUInt32 >>> ((1 : Int32).toUInt32 &&& Int32.toUInt32 31)).toInt32) &&& (1431655765 : Int32))).toUInt32 >>> ((2 : Int32).toUInt32 &&& Int32.toUInt32 31)).toInt32) &&& (858993459 : Int32))) + (((((i - (((i.toUInt32 >>> ((1 : Int32).toUInt32 &&& Int32.toUInt32 31)).toInt32) &&& (1431655765 : Int32))) &&& (858993459 : Int32)) + ((((i - (((i.toUInt32 >>> ((1 : Int32).toUInt32 &&& Int32.toUInt32 31)).toInt32) &&& (1431655765 : Int32))).toUInt32 >>> ((2 : Int32).toUInt32 &&& Int32.toUInt32 31)).toInt32) &&& (858993459 : Int32))).toUInt32 >>> ((4 : Int32).toUInt32 &&& Int32.toUInt32 31)).toInt32)) &&& (252645135 : Int32)) + (((((((i - (((i.toUInt32 >>> ((1 : Int32).toUInt32 &&& Int32.toUInt32 31)).toInt32) &&& (1431655765 : Int32))) &&& (858993459 : Int32)) + ((((i - (((i.toUInt32 >>> ((1 : Int32).toUInt32 &&& Int32.toUInt32 31)).toInt32) &&& (1431655765 : Int32))).toUInt32 >>> ((2 : Int32).toUInt32 &&& Int32.toUInt32 31)).toInt32) &&& (858993459 : Int32))) + (((((i - (((i.toUInt32 >>> ((1 : Int32).toUInt32 &&& Int32.toUInt32 31)).toInt32) &&& (1431655765 : Int32))) &&& (858993459 : Int32)) + ((((i - (((i.toUInt32 >>> ((1 : Int32).toUInt32 &&& Int32.toUInt32 31)).toInt32) &&& (1431655765 : Int32))).toUInt32 >>> ((2 : Int32).toUInt32 &&& Int32.toUInt32 31)).toInt32) &&& (858993459 : Int32))).toUInt32 >>> ((4 : Int32).toUInt32 &&& Int32.toUInt32 31)).toInt32)) &&& (252645135 : Int32)).toUInt32 >>> ((8 : Int32).toUInt32 &&& Int32.toUInt32 31)).toInt32)).toUInt32 >>> ((16 : Int32).toUInt32 &&& Int32.toUInt32 31)).toInt32)))]) hx hb dJ4_bitCount_47 rfl hl (by decide) rfl (fun ls hl => ?_)
  refine lv_iload_n hx hb dJ4_bitCount_48 rfl (lv_at hl 0 rfl) ?_
  refine lv_bipush (v := 63) hx hb dJ4_bitCount_49 (by decide) ?_
  refine lv_iand hx hb dJ4_bitCount_51 ?_
  exact W.iret hx hb hr (fun t ht _ => ⟨rI (rfl), ht⟩) (fun q h => by cases h) dJ4_bitCount_52
theorem k_X0_ones {l : Launch} (i : Int32) : Met l yX0_ones (ws_ yX0_ones cX0_ones 1 (some .int)) ({ frames := 1, cells := 0, slots := 0, locals := 20 } : Room) (va_Pc [.int i] pT) (rQ (.int (bcI i))) 0 0 nof := by
  refine met_T (by decide) rfl (Nat.le_of_ble_eq_true rfl) ?_
  intro p e s m below meth c ls hx hb hr hml hown hts hlocks hl
  have F : CallFix p m c cX0_ones 1 s _ lw_all RX0 := ⟨hx, hb, hml, hown, hts⟩
  have hl : lv_has ls 1 [(0, .int i)] := hl
  refine lv_iload_n hx hb dX0_ones_0 rfl (lv_at hl 0 rfl) ?_
  refine c_r (k_S (As := [.int i]) (rest := []) F (k_J4_bitCount i) (va_cwS 1 hts (lw_S q736 q737 q109 q738) rfl rfl rfl (by decide +kernel) ⟨Nat.le_of_ble_eq_true rfl, Nat.le_of_ble_eq_true rfl⟩) rfl hl.1 rfl (Nat.le_of_ble_eq_true rfl) dX0_ones_1 ⟨Nat.le_of_ble_eq_true rfl, Nat.le_of_ble_eq_true rfl⟩) ?_
  exact W.iret hx hb hr (fun t ht _ => ⟨rI (rfl), ht⟩) (fun q h => by cases h) dX0_ones_4
theorem k_X0_isSheet {l : Launch} (v : Int32) : Met l yX0_isSheet (ws_ yX0_isSheet cX0_isSheet 1 (some .boolean)) ({ frames := 1, cells := 0, slots := 0, locals := 22 } : Room) (va_Pc [.int v] pT) (rQ (.int (inI v 0 3))) 0 0 nof := by
  refine met_T (by decide) rfl (Nat.le_of_ble_eq_true rfl) ?_
  intro p e s m below meth c ls hx hb hr hml hown hts hlocks hl
  have F : CallFix p m c cX0_isSheet 1 s _ lw_all RX0 := ⟨hx, hb, hml, hown, hts⟩
  have hl : lv_has ls 1 [(0, .int v)] := hl
  refine lv_iload_n hx hb dX0_isSheet_0 rfl (lv_at hl 0 rfl) ?_
  refine lv_iconst (v := 0) hx hb dX0_isSheet_1 (by decide) ?_
  refine lv_iconst (v := 3) hx hb dX0_isSheet_2 (by decide) ?_
  refine c_r (k_S (As := [.int v, .int 0, .int 3]) (rest := []) F (k_X0_in v 0 3) (va_cwS 3 hts (lw_S q439 q440 q91 q441) rfl rfl rfl (by decide +kernel) ⟨Nat.le_of_ble_eq_true rfl, Nat.le_of_ble_eq_true rfl⟩) rfl hl.1 rfl (Nat.le_of_ble_eq_true rfl) dX0_isSheet_3 ⟨Nat.le_of_ble_eq_true rfl, Nat.le_of_ble_eq_true rfl⟩) ?_
  exact W.zret hx hb hr (t_bl2 (inI_01 _ _ _)) (fun t ht _ => ⟨rI (rfl), ht⟩) (fun q h => by cases h) dX0_isSheet_6
theorem k_X0_isSpot {l : Launch} (v : Int32) : Met l yX0_isSpot (ws_ yX0_isSpot cX0_isSpot 1 (some .boolean)) ({ frames := 1, cells := 0, slots := 0, locals := 22 } : Room) (va_Pc [.int v] pT) (rQ (.int (inI v 0 9))) 0 0 nof := by
  refine met_T (by decide) rfl (Nat.le_of_ble_eq_true rfl) ?_
  intro p e s m below meth c ls hx hb hr hml hown hts hlocks hl
  have F : CallFix p m c cX0_isSpot 1 s _ lw_all RX0 := ⟨hx, hb, hml, hown, hts⟩
  have hl : lv_has ls 1 [(0, .int v)] := hl
  refine lv_iload_n hx hb dX0_isSpot_0 rfl (lv_at hl 0 rfl) ?_
  refine lv_iconst (v := 0) hx hb dX0_isSpot_1 (by decide) ?_
  refine lv_bipush (v := 9) hx hb dX0_isSpot_2 (by decide) ?_
  refine c_r (k_S (As := [.int v, .int 0, .int 9]) (rest := []) F (k_X0_in v 0 9) (va_cwS 3 hts (lw_S q439 q440 q91 q441) rfl rfl rfl (by decide +kernel) ⟨Nat.le_of_ble_eq_true rfl, Nat.le_of_ble_eq_true rfl⟩) rfl hl.1 rfl (Nat.le_of_ble_eq_true rfl) dX0_isSpot_4 ⟨Nat.le_of_ble_eq_true rfl, Nat.le_of_ble_eq_true rfl⟩) ?_
  exact W.zret hx hb hr (t_bl2 (inI_01 _ _ _)) (fun t ht _ => ⟨rI (rfl), ht⟩) (fun q h => by cases h) dX0_isSpot_7
theorem k_X0_isKind {l : Launch} (v : Int32) : Met l yX0_isKind (ws_ yX0_isKind cX0_isKind 1 (some .boolean)) ({ frames := 1, cells := 0, slots := 0, locals := 22 } : Room) (va_Pc [.int v] pT) (rQ (.int (inI v 0 6))) 0 0 nof := by
  refine met_T (by decide) rfl (Nat.le_of_ble_eq_true rfl) ?_
  intro p e s m below meth c ls hx hb hr hml hown hts hlocks hl
  have F : CallFix p m c cX0_isKind 1 s _ lw_all RX0 := ⟨hx, hb, hml, hown, hts⟩
  have hl : lv_has ls 1 [(0, .int v)] := hl
  refine lv_iload_n hx hb dX0_isKind_0 rfl (lv_at hl 0 rfl) ?_
  refine lv_iconst (v := 0) hx hb dX0_isKind_1 (by decide) ?_
  refine lv_bipush (v := 6) hx hb dX0_isKind_2 (by decide) ?_
  refine c_r (k_S (As := [.int v, .int 0, .int 6]) (rest := []) F (k_X0_in v 0 6) (va_cwS 3 hts (lw_S q439 q440 q91 q441) rfl rfl rfl (by decide +kernel) ⟨Nat.le_of_ble_eq_true rfl, Nat.le_of_ble_eq_true rfl⟩) rfl hl.1 rfl (Nat.le_of_ble_eq_true rfl) dX0_isKind_4 ⟨Nat.le_of_ble_eq_true rfl, Nat.le_of_ble_eq_true rfl⟩) ?_
  exact W.zret hx hb hr (t_bl2 (inI_01 _ _ _)) (fun t ht _ => ⟨rI (rfl), ht⟩) (fun q h => by cases h) dX0_isKind_7
theorem k_X0_isRoom {l : Launch} (v : Int32) : Met l yX0_isRoom (ws_ yX0_isRoom cX0_isRoom 1 (some .boolean)) ({ frames := 1, cells := 0, slots := 0, locals := 22 } : Room) (va_Pc [.int v] pT) (rQ (.int (inI v 0 5))) 0 0 nof := by
  refine met_T (by decide) rfl (Nat.le_of_ble_eq_true rfl) ?_
  intro p e s m below meth c ls hx hb hr hml hown hts hlocks hl
  have F : CallFix p m c cX0_isRoom 1 s _ lw_all RX0 := ⟨hx, hb, hml, hown, hts⟩
  have hl : lv_has ls 1 [(0, .int v)] := hl
  refine lv_iload_n hx hb dX0_isRoom_0 rfl (lv_at hl 0 rfl) ?_
  refine lv_iconst (v := 0) hx hb dX0_isRoom_1 (by decide) ?_
  refine lv_iconst (v := 5) hx hb dX0_isRoom_2 (by decide) ?_
  refine c_r (k_S (As := [.int v, .int 0, .int 5]) (rest := []) F (k_X0_in v 0 5) (va_cwS 3 hts (lw_S q439 q440 q91 q441) rfl rfl rfl (by decide +kernel) ⟨Nat.le_of_ble_eq_true rfl, Nat.le_of_ble_eq_true rfl⟩) rfl hl.1 rfl (Nat.le_of_ble_eq_true rfl) dX0_isRoom_3 ⟨Nat.le_of_ble_eq_true rfl, Nat.le_of_ble_eq_true rfl⟩) ?_
  exact W.zret hx hb hr (t_bl2 (inI_01 _ _ _)) (fun t ht _ => ⟨rI (rfl), ht⟩) (fun q h => by cases h) dX0_isRoom_6
theorem k_X0_isTopic {l : Launch} (v : Int32) : Met l yX0_isTopic (ws_ yX0_isTopic cX0_isTopic 1 (some .boolean)) ({ frames := 1, cells := 0, slots := 0, locals := 22 } : Room) (va_Pc [.int v] pT) (rQ (.int (inI v 0 15))) 0 0 nof := by
  refine met_T (by decide) rfl (Nat.le_of_ble_eq_true rfl) ?_
  intro p e s m below meth c ls hx hb hr hml hown hts hlocks hl
  have F : CallFix p m c cX0_isTopic 1 s _ lw_all RX0 := ⟨hx, hb, hml, hown, hts⟩
  have hl : lv_has ls 1 [(0, .int v)] := hl
  refine lv_iload_n hx hb dX0_isTopic_0 rfl (lv_at hl 0 rfl) ?_
  refine lv_iconst (v := 0) hx hb dX0_isTopic_1 (by decide) ?_
  refine lv_bipush (v := 15) hx hb dX0_isTopic_2 (by decide) ?_
  refine c_r (k_S (As := [.int v, .int 0, .int 15]) (rest := []) F (k_X0_in v 0 15) (va_cwS 3 hts (lw_S q439 q440 q91 q441) rfl rfl rfl (by decide +kernel) ⟨Nat.le_of_ble_eq_true rfl, Nat.le_of_ble_eq_true rfl⟩) rfl hl.1 rfl (Nat.le_of_ble_eq_true rfl) dX0_isTopic_4 ⟨Nat.le_of_ble_eq_true rfl, Nat.le_of_ble_eq_true rfl⟩) ?_
  exact W.zret hx hb hr (t_bl2 (inI_01 _ _ _)) (fun t ht _ => ⟨rI (rfl), ht⟩) (fun q h => by cases h) dX0_isTopic_7
theorem k_X0_isTopics {l : Launch} (v : Int32) : Met l yX0_isTopics (ws_ yX0_isTopics cX0_isTopics 1 (some .boolean)) ({ frames := 1, cells := 0, slots := 0, locals := 22 } : Room) (va_Pc [.int v] pT) (rQ (.int (inI v 0 65535))) 0 0 nof := by
  refine met_T (by decide) rfl (Nat.le_of_ble_eq_true rfl) ?_
  intro p e s m below meth c ls hx hb hr hml hown hts hlocks hl
  have F : CallFix p m c cX0_isTopics 1 s _ lw_all RX0 := ⟨hx, hb, hml, hown, hts⟩
  have hl : lv_has ls 1 [(0, .int v)] := hl
  refine lv_iload_n hx hb dX0_isTopics_0 rfl (lv_at hl 0 rfl) ?_
  refine lv_iconst (v := 0) hx hb dX0_isTopics_1 (by decide) ?_
  refine lv_ldc (v := 65535) hx hb hown (hts _ q672) dX0_isTopics_2 ?_
  refine c_r (k_S (As := [.int v, .int 0, .int 65535]) (rest := []) F (k_X0_in v 0 65535) (va_cwS 3 hts (lw_S q439 q440 q91 q441) rfl rfl rfl (by decide +kernel) ⟨Nat.le_of_ble_eq_true rfl, Nat.le_of_ble_eq_true rfl⟩) rfl hl.1 rfl (Nat.le_of_ble_eq_true rfl) dX0_isTopics_4 ⟨Nat.le_of_ble_eq_true rfl, Nat.le_of_ble_eq_true rfl⟩) ?_
  exact W.zret hx hb hr (t_bl2 (inI_01 _ _ _)) (fun t ht _ => ⟨rI (rfl), ht⟩) (fun q h => by cases h) dX0_isTopics_7
theorem k_X0_isMany {l : Launch} (v : Int32) : Met l yX0_isMany (ws_ yX0_isMany cX0_isMany 1 (some .boolean)) ({ frames := 1, cells := 0, slots := 0, locals := 22 } : Room) (va_Pc [.int v] pT) (rQ (.int (inI v 0 16))) 0 0 nof := by
  refine met_T (by decide) rfl (Nat.le_of_ble_eq_true rfl) ?_
  intro p e s m below meth c ls hx hb hr hml hown hts hlocks hl
  have F : CallFix p m c cX0_isMany 1 s _ lw_all RX0 := ⟨hx, hb, hml, hown, hts⟩
  have hl : lv_has ls 1 [(0, .int v)] := hl
  refine lv_iload_n hx hb dX0_isMany_0 rfl (lv_at hl 0 rfl) ?_
  refine lv_iconst (v := 0) hx hb dX0_isMany_1 (by decide) ?_
  refine lv_bipush (v := 16) hx hb dX0_isMany_2 (by decide) ?_
  refine c_r (k_S (As := [.int v, .int 0, .int 16]) (rest := []) F (k_X0_in v 0 16) (va_cwS 3 hts (lw_S q439 q440 q91 q441) rfl rfl rfl (by decide +kernel) ⟨Nat.le_of_ble_eq_true rfl, Nat.le_of_ble_eq_true rfl⟩) rfl hl.1 rfl (Nat.le_of_ble_eq_true rfl) dX0_isMany_4 ⟨Nat.le_of_ble_eq_true rfl, Nat.le_of_ble_eq_true rfl⟩) ?_
  exact W.zret hx hb hr (t_bl2 (inI_01 _ _ _)) (fun t ht _ => ⟨rI (rfl), ht⟩) (fun q h => by cases h) dX0_isMany_7
theorem k_X0_isPlace {l : Launch} (v : Int32) : Met l yX0_isPlace (ws_ yX0_isPlace cX0_isPlace 1 (some .boolean)) ({ frames := 1, cells := 0, slots := 0, locals := 22 } : Room) (va_Pc [.int v] pT) (rQ (.int (inI v 0 5))) 0 0 nof := by
  refine met_T (by decide) rfl (Nat.le_of_ble_eq_true rfl) ?_
  intro p e s m below meth c ls hx hb hr hml hown hts hlocks hl
  have F : CallFix p m c cX0_isPlace 1 s _ lw_all RX0 := ⟨hx, hb, hml, hown, hts⟩
  have hl : lv_has ls 1 [(0, .int v)] := hl
  refine lv_iload_n hx hb dX0_isPlace_0 rfl (lv_at hl 0 rfl) ?_
  refine lv_iconst (v := 0) hx hb dX0_isPlace_1 (by decide) ?_
  refine lv_iconst (v := 5) hx hb dX0_isPlace_2 (by decide) ?_
  refine c_r (k_S (As := [.int v, .int 0, .int 5]) (rest := []) F (k_X0_in v 0 5) (va_cwS 3 hts (lw_S q439 q440 q91 q441) rfl rfl rfl (by decide +kernel) ⟨Nat.le_of_ble_eq_true rfl, Nat.le_of_ble_eq_true rfl⟩) rfl hl.1 rfl (Nat.le_of_ble_eq_true rfl) dX0_isPlace_3 ⟨Nat.le_of_ble_eq_true rfl, Nat.le_of_ble_eq_true rfl⟩) ?_
  exact W.zret hx hb hr (t_bl2 (inI_01 _ _ _)) (fun t ht _ => ⟨rI (rfl), ht⟩) (fun q h => by cases h) dX0_isPlace_6
theorem k_X0_roomOf {l : Launch} (v : Int32) : Met l yX0_roomOf (ws_ yX0_roomOf cX0_roomOf 1 (some .int)) ({ frames := 0, cells := 0, slots := 0, locals := 0 } : Room) (va_Pc [.int v] pT) (rQ (.int (rmI v))) 0 0 nof := by
  refine met_T (by decide) rfl (Nat.le_of_ble_eq_true rfl) ?_
  intro p e s m below meth c ls hx hb hr hml hown hts hlocks hl
  have F : CallFix p m c cX0_roomOf 1 s _ lw_all RX0 := ⟨hx, hb, hml, hown, hts⟩
  have hl : lv_has ls 1 [(0, .int v)] := hl
  refine lv_iload_n hx hb dX0_roomOf_0 rfl (lv_at hl 0 rfl) ?_
  refine lv_sipush (v := 1000) hx hb dX0_roomOf_1 (by decide) ?_
  refine lv_idiv hx hb dX0_roomOf_4 (by decide) ?_
  exact W.iret hx hb hr (fun t ht _ => ⟨rI (rfl), ht⟩) (fun q h => by cases h) dX0_roomOf_5
theorem k_X0_topicOf {l : Launch} (v : Int32) : Met l yX0_topicOf (ws_ yX0_topicOf cX0_topicOf 1 (some .int)) ({ frames := 0, cells := 0, slots := 0, locals := 0 } : Room) (va_Pc [.int v] pT) (rQ (.int (tpI v))) 0 0 nof := by
  refine met_T (by decide) rfl (Nat.le_of_ble_eq_true rfl) ?_
  intro p e s m below meth c ls hx hb hr hml hown hts hlocks hl
  have F : CallFix p m c cX0_topicOf 1 s _ lw_all RX0 := ⟨hx, hb, hml, hown, hts⟩
  have hl : lv_has ls 1 [(0, .int v)] := hl
  refine lv_iload_n hx hb dX0_topicOf_0 rfl (lv_at hl 0 rfl) ?_
  refine lv_sipush (v := 1000) hx hb dX0_topicOf_1 (by decide) ?_
  refine lv_irem hx hb dX0_topicOf_4 (by decide) ?_
  refine lv_bipush (v := 10) hx hb dX0_topicOf_5 (by decide) ?_
  refine lv_idiv hx hb dX0_topicOf_7 (by decide) ?_
  exact W.iret hx hb hr (fun t ht _ => ⟨rI (rfl), ht⟩) (fun q h => by cases h) dX0_topicOf_8
theorem k_X0_loudOf {l : Launch} (v : Int32) : Met l yX0_loudOf (ws_ yX0_loudOf cX0_loudOf 1 (some .int)) ({ frames := 0, cells := 0, slots := 0, locals := 0 } : Room) (va_Pc [.int v] pT) (rQ (.int (ldI v))) 0 0 nof := by
  refine met_T (by decide) rfl (Nat.le_of_ble_eq_true rfl) ?_
  intro p e s m below meth c ls hx hb hr hml hown hts hlocks hl
  have F : CallFix p m c cX0_loudOf 1 s _ lw_all RX0 := ⟨hx, hb, hml, hown, hts⟩
  have hl : lv_has ls 1 [(0, .int v)] := hl
  refine lv_iload_n hx hb dX0_loudOf_0 rfl (lv_at hl 0 rfl) ?_
  refine lv_bipush (v := 10) hx hb dX0_loudOf_1 (by decide) ?_
  refine lv_irem hx hb dX0_loudOf_3 (by decide) ?_
  exact W.iret hx hb hr (fun t ht _ => ⟨rI (rfl), ht⟩) (fun q h => by cases h) dX0_loudOf_4
theorem k_X0_saying {l : Launch} (r t v : Int32) : Met l yX0_saying (ws_ yX0_saying cX0_saying 3 (some .int)) ({ frames := 0, cells := 0, slots := 0, locals := 0 } : Room) (va_Pc [.int r, .int t, .int v] pT) (rQ (.int (syI r t v))) 0 0 nof := by
  refine met_T (by decide) rfl (Nat.le_of_ble_eq_true rfl) ?_
  intro p e s m below meth c ls hx hb hr hml hown hts hlocks hl
  have F : CallFix p m c cX0_saying 3 s _ lw_all RX0 := ⟨hx, hb, hml, hown, hts⟩
  have hl : lv_has ls 3 [(0, .int r), (1, .int t), (2, .int v)] := hl
  refine lv_sipush (v := 1000) hx hb dX0_saying_0 (by decide) ?_
  refine lv_iload_n hx hb dX0_saying_3 rfl (lv_at hl 0 rfl) ?_
  refine lv_imul hx hb dX0_saying_4 ?_
  refine lv_bipush (v := 10) hx hb dX0_saying_5 (by decide) ?_
  refine lv_iload_n hx hb dX0_saying_7 rfl (lv_at hl 1 rfl) ?_
  refine lv_imul hx hb dX0_saying_8 ?_
  refine lv_iadd hx hb dX0_saying_9 ?_
  refine lv_iload_n hx hb dX0_saying_10 rfl (lv_at hl 2 rfl) ?_
  refine lv_iadd hx hb dX0_saying_11 ?_
  exact W.iret hx hb hr (fun t ht _ => ⟨rI (rfl), ht⟩) (fun q h => by cases h) dX0_saying_12
theorem k_X0_isSaying {l : Launch} (v : Int32) : Met l yX0_isSaying (ws_ yX0_isSaying cX0_isSaying 1 (some .boolean)) ({ frames := 2, cells := 0, slots := 0, locals := 42 } : Room) (va_Pc [.int v] pT) (rQ (.int (isSayI v))) 0 0 nof := by
  refine met_T (by decide) rfl (Nat.le_of_ble_eq_true rfl) ?_
  intro p e s m below meth c ls hx hb hr hml hown hts hlocks hl
  have F : CallFix p m c cX0_isSaying 1 s _ lw_all RX0 := ⟨hx, hb, hml, hown, hts⟩
  have hl : lv_has ls 1 [(0, .int v)] := hl
  refine lv_iload_n hx hb dX0_isSaying_0 rfl (lv_at hl 0 rfl) ?_
  refine lv_if_lt (tgt := 28) hx hb dX0_isSaying_1 (by decide) (fun c_1 => ?_) (fun c_1 => ?_)
  · skip
    refine lv_iconst (v := 0) hx hb dX0_isSaying_28 (by decide) ?_
    exact W.zret hx hb hr (rfl) (fun t ht _ => ⟨rI (by simp [isSayI, c_1]), ht⟩) (fun q h => by cases h) dX0_isSaying_29
  · skip
    refine lv_iload_n hx hb dX0_isSaying_4 rfl (lv_at hl 0 rfl) ?_
    refine c_r (k_S (As := [.int v]) (rest := []) F (k_X0_roomOf v) (va_cwS 1 hts (lw_S q445 q446 q91 q447) rfl rfl rfl (by decide +kernel) ⟨Nat.le_of_ble_eq_true rfl, Nat.le_of_ble_eq_true rfl⟩) rfl hl.1 rfl (Nat.le_of_ble_eq_true rfl) dX0_isSaying_5 ⟨Nat.le_of_ble_eq_true rfl, Nat.le_of_ble_eq_true rfl⟩) ?_
    refine c_r (k_S (As := [.int (rmI v)]) (rest := []) F (k_X0_isRoom (rmI v)) (va_cwS 1 hts (lw_S q448 q449 q91 q450) rfl rfl rfl (by decide +kernel) ⟨Nat.le_of_ble_eq_true rfl, Nat.le_of_ble_eq_true rfl⟩) rfl hl.1 rfl (Nat.le_of_ble_eq_true rfl) dX0_isSaying_8 ⟨Nat.le_of_ble_eq_true rfl, Nat.le_of_ble_eq_true rfl⟩) ?_
    refine lv_if_eq (tgt := 28) hx hb dX0_isSaying_11 (by decide) (fun c_11 => ?_) (fun c_11 => ?_)
    · skip
      refine lv_iconst (v := 0) hx hb dX0_isSaying_28 (by decide) ?_
      exact W.zret hx hb hr (rfl) (fun t ht _ => ⟨rI (by simp [isSayI, c_1, c_11]), ht⟩) (fun q h => by cases h) dX0_isSaying_29
    · skip
      refine lv_iload_n hx hb dX0_isSaying_14 rfl (lv_at hl 0 rfl) ?_
      refine c_r (k_S (As := [.int v]) (rest := []) F (k_X0_topicOf v) (va_cwS 1 hts (lw_S q451 q452 q91 q453) rfl rfl rfl (by decide +kernel) ⟨Nat.le_of_ble_eq_true rfl, Nat.le_of_ble_eq_true rfl⟩) rfl hl.1 rfl (Nat.le_of_ble_eq_true rfl) dX0_isSaying_15 ⟨Nat.le_of_ble_eq_true rfl, Nat.le_of_ble_eq_true rfl⟩) ?_
      refine c_r (k_S (As := [.int (tpI v)]) (rest := []) F (k_X0_isTopic (tpI v)) (va_cwS 1 hts (lw_S q454 q455 q91 q456) rfl rfl rfl (by decide +kernel) ⟨Nat.le_of_ble_eq_true rfl, Nat.le_of_ble_eq_true rfl⟩) rfl hl.1 rfl (Nat.le_of_ble_eq_true rfl) dX0_isSaying_18 ⟨Nat.le_of_ble_eq_true rfl, Nat.le_of_ble_eq_true rfl⟩) ?_
      refine lv_if_eq (tgt := 28) hx hb dX0_isSaying_21 (by decide) (fun c_21 => ?_) (fun c_21 => ?_)
      · skip
        refine lv_iconst (v := 0) hx hb dX0_isSaying_28 (by decide) ?_
        exact W.zret hx hb hr (rfl) (fun t ht _ => ⟨rI (by simp [isSayI, c_1, c_11, c_21]), ht⟩) (fun q h => by cases h) dX0_isSaying_29
      · skip
        refine lv_iconst (v := 1) hx hb dX0_isSaying_24 (by decide) ?_
        refine lv_goto (tgt := 29) hx hb dX0_isSaying_25 (by decide) ?_
        exact W.zret hx hb hr (rfl) (fun t ht _ => ⟨rI (by simp [isSayI, c_1, c_11, c_21]), ht⟩) (fun q h => by cases h) dX0_isSaying_29
theorem k_X0_isTold {l : Launch} (what v : Int32) : Met l yX0_isTold (ws_ yX0_isTold cX0_isTold 2 (some .boolean)) ({ frames := 2, cells := 0, slots := 0, locals := 42 } : Room) (va_Pc [.int what, .int v] pT) (rQ (.int (isTldI what v))) 0 0 nof := by
  refine met_T (by decide) rfl (Nat.le_of_ble_eq_true rfl) ?_
  intro p e s m below meth c ls hx hb hr hml hown hts hlocks hl
  have F : CallFix p m c cX0_isTold 2 s _ lw_all RX0 := ⟨hx, hb, hml, hown, hts⟩
  have hl : lv_has ls 2 [(0, .int what), (1, .int v)] := hl
  refine lv_iload_n hx hb dX0_isTold_0 rfl (lv_at hl 0 rfl) ?_
  by_cases c_1_0 : what = 0
  · skip
    refine lv_tableIn (off := 43) (tgt := 44) hx hb dX0_isTold_1 (by rw [c_1_0]; decide) (by rw [c_1_0]; decide) (by rw [c_1_0]; rfl) (by decide) ?_
    refine lv_iload_n hx hb dX0_isTold_44 rfl (lv_at hl 1 rfl) ?_
    refine c_r (k_S (As := [.int v]) (rest := []) F (k_X0_isKind v) (va_cwS 1 hts (lw_S q532 q533 q91 q534) rfl rfl rfl (by decide +kernel) ⟨Nat.le_of_ble_eq_true rfl, Nat.le_of_ble_eq_true rfl⟩) rfl hl.1 rfl (Nat.le_of_ble_eq_true rfl) dX0_isTold_45 ⟨Nat.le_of_ble_eq_true rfl, Nat.le_of_ble_eq_true rfl⟩) ?_
    exact W.zret hx hb hr (t_bl2 (inI_01 _ _ _)) (fun t ht _ => ⟨rI (by simp [isTldI, c_1_0]), ht⟩) (fun q h => by cases h) dX0_isTold_48
  by_cases c_1_1 : what = 1
  · skip
    refine lv_tableIn (off := 48) (tgt := 49) hx hb dX0_isTold_1 (by rw [c_1_1]; decide) (by rw [c_1_1]; decide) (by rw [c_1_1]; rfl) (by decide) ?_
    refine lv_iload_n hx hb dX0_isTold_49 rfl (lv_at hl 1 rfl) ?_
    refine c_r (k_S (As := [.int v]) (rest := []) F (k_X0_isRoom v) (va_cwS 1 hts (lw_S q448 q449 q91 q450) rfl rfl rfl (by decide +kernel) ⟨Nat.le_of_ble_eq_true rfl, Nat.le_of_ble_eq_true rfl⟩) rfl hl.1 rfl (Nat.le_of_ble_eq_true rfl) dX0_isTold_50 ⟨Nat.le_of_ble_eq_true rfl, Nat.le_of_ble_eq_true rfl⟩) ?_
    exact W.zret hx hb hr (t_bl2 (inI_01 _ _ _)) (fun t ht _ => ⟨rI (by simp [isTldI, c_1_0, c_1_1]), ht⟩) (fun q h => by cases h) dX0_isTold_53
  by_cases c_1_2 : what = 2
  · skip
    refine lv_tableIn (off := 53) (tgt := 54) hx hb dX0_isTold_1 (by rw [c_1_2]; decide) (by rw [c_1_2]; decide) (by rw [c_1_2]; rfl) (by decide) ?_
    refine lv_iload_n hx hb dX0_isTold_54 rfl (lv_at hl 1 rfl) ?_
    refine lv_iconst (v := 0) hx hb dX0_isTold_55 (by decide) ?_
    refine lv_bipush (v := 9) hx hb dX0_isTold_56 (by decide) ?_
    refine c_r (k_S (As := [.int v, .int 0, .int 9]) (rest := []) F (k_X0_in v 0 9) (va_cwS 3 hts (lw_S q439 q440 q91 q441) rfl rfl rfl (by decide +kernel) ⟨Nat.le_of_ble_eq_true rfl, Nat.le_of_ble_eq_true rfl⟩) rfl hl.1 rfl (Nat.le_of_ble_eq_true rfl) dX0_isTold_58 ⟨Nat.le_of_ble_eq_true rfl, Nat.le_of_ble_eq_true rfl⟩) ?_
    exact W.zret hx hb hr (t_bl2 (inI_01 _ _ _)) (fun t ht _ => ⟨rI (by simp [isTldI, c_1_0, c_1_1, c_1_2]), ht⟩) (fun q h => by cases h) dX0_isTold_61
  by_cases c_1_3 : what = 3
  · skip
    refine lv_tableIn (off := 61) (tgt := 62) hx hb dX0_isTold_1 (by rw [c_1_3]; decide) (by rw [c_1_3]; decide) (by rw [c_1_3]; rfl) (by decide) ?_
    refine lv_iload_n hx hb dX0_isTold_62 rfl (lv_at hl 1 rfl) ?_
    refine c_r (k_S (As := [.int v]) (rest := []) F (k_X0_isTopics v) (va_cwS 1 hts (lw_S q669 q670 q91 q671) rfl rfl rfl (by decide +kernel) ⟨Nat.le_of_ble_eq_true rfl, Nat.le_of_ble_eq_true rfl⟩) rfl hl.1 rfl (Nat.le_of_ble_eq_true rfl) dX0_isTold_63 ⟨Nat.le_of_ble_eq_true rfl, Nat.le_of_ble_eq_true rfl⟩) ?_
    exact W.zret hx hb hr (t_bl2 (inI_01 _ _ _)) (fun t ht _ => ⟨rI (by simp [isTldI, c_1_0, c_1_1, c_1_2, c_1_3]), ht⟩) (fun q h => by cases h) dX0_isTold_66
  by_cases c_1_4 : what = 4
  · skip
    refine lv_tableIn (off := 66) (tgt := 67) hx hb dX0_isTold_1 (by rw [c_1_4]; decide) (by rw [c_1_4]; decide) (by rw [c_1_4]; rfl) (by decide) ?_
    refine lv_iload_n hx hb dX0_isTold_67 rfl (lv_at hl 1 rfl) ?_
    refine lv_iconst (v := 0) hx hb dX0_isTold_68 (by decide) ?_
    refine lv_sipush (v := 9999) hx hb dX0_isTold_69 (by decide) ?_
    refine c_r (k_S (As := [.int v, .int 0, .int 9999]) (rest := []) F (k_X0_in v 0 9999) (va_cwS 3 hts (lw_S q439 q440 q91 q441) rfl rfl rfl (by decide +kernel) ⟨Nat.le_of_ble_eq_true rfl, Nat.le_of_ble_eq_true rfl⟩) rfl hl.1 rfl (Nat.le_of_ble_eq_true rfl) dX0_isTold_72 ⟨Nat.le_of_ble_eq_true rfl, Nat.le_of_ble_eq_true rfl⟩) ?_
    exact W.zret hx hb hr (t_bl2 (inI_01 _ _ _)) (fun t ht _ => ⟨rI (by simp [isTldI, c_1_0, c_1_1, c_1_2, c_1_3, c_1_4]), ht⟩) (fun q h => by cases h) dX0_isTold_75
  by_cases c_1_5 : what = 5
  · skip
    refine lv_tableIn (off := 61) (tgt := 62) hx hb dX0_isTold_1 (by rw [c_1_5]; decide) (by rw [c_1_5]; decide) (by rw [c_1_5]; rfl) (by decide) ?_
    refine lv_iload_n hx hb dX0_isTold_62 rfl (lv_at hl 1 rfl) ?_
    refine c_r (k_S (As := [.int v]) (rest := []) F (k_X0_isTopics v) (va_cwS 1 hts (lw_S q669 q670 q91 q671) rfl rfl rfl (by decide +kernel) ⟨Nat.le_of_ble_eq_true rfl, Nat.le_of_ble_eq_true rfl⟩) rfl hl.1 rfl (Nat.le_of_ble_eq_true rfl) dX0_isTold_63 ⟨Nat.le_of_ble_eq_true rfl, Nat.le_of_ble_eq_true rfl⟩) ?_
    exact W.zret hx hb hr (t_bl2 (inI_01 _ _ _)) (fun t ht _ => ⟨rI (by simp [isTldI, c_1_0, c_1_1, c_1_2, c_1_3, c_1_4, c_1_5]), ht⟩) (fun q h => by cases h) dX0_isTold_66
  by_cases c_1_6 : what = 6
  · skip
    refine lv_tableIn (off := 75) (tgt := 76) hx hb dX0_isTold_1 (by rw [c_1_6]; decide) (by rw [c_1_6]; decide) (by rw [c_1_6]; rfl) (by decide) ?_
    refine lv_iload_n hx hb dX0_isTold_76 rfl (lv_at hl 1 rfl) ?_
    refine lv_iconst (v := 0) hx hb dX0_isTold_77 (by decide) ?_
    refine lv_sipush (v := 9999) hx hb dX0_isTold_78 (by decide) ?_
    refine c_r (k_S (As := [.int v, .int 0, .int 9999]) (rest := []) F (k_X0_in v 0 9999) (va_cwS 3 hts (lw_S q439 q440 q91 q441) rfl rfl rfl (by decide +kernel) ⟨Nat.le_of_ble_eq_true rfl, Nat.le_of_ble_eq_true rfl⟩) rfl hl.1 rfl (Nat.le_of_ble_eq_true rfl) dX0_isTold_81 ⟨Nat.le_of_ble_eq_true rfl, Nat.le_of_ble_eq_true rfl⟩) ?_
    exact W.zret hx hb hr (t_bl2 (inI_01 _ _ _)) (fun t ht _ => ⟨rI (by simp [isTldI, c_1_0, c_1_1, c_1_2, c_1_3, c_1_4, c_1_5, c_1_6]), ht⟩) (fun q h => by cases h) dX0_isTold_84
  refine lv_tableOut (tgt := 85) hx hb dX0_isTold_1 (by have n0 := lv_neT c_1_0 (a := 0) (by decide); have n1 := lv_neT c_1_1 (a := 1) (by decide); have n2 := lv_neT c_1_2 (a := 2) (by decide); have n3 := lv_neT c_1_3 (a := 3) (by decide); have n4 := lv_neT c_1_4 (a := 4) (by decide); have n5 := lv_neT c_1_5 (a := 5) (by decide); have n6 := lv_neT c_1_6 (a := 6) (by decide); omega) (by decide) ?_
  refine lv_iconst (v := 0) hx hb dX0_isTold_85 (by decide) ?_
  exact W.zret hx hb hr (rfl) (fun t ht _ => ⟨rI (by simp [isTldI, c_1_0, c_1_1, c_1_2, c_1_3, c_1_4, c_1_5, c_1_6]), ht⟩) (fun q h => by cases h) dX0_isTold_86
