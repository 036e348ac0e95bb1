/-! the law: its loop, its start -/
theorem sw_x {x : Int32} (h : ∀ k : Nat, k < 40 → ¬ x = nI k) : x.toInt < 0 ∨ 39 < x.toInt := by
  rcases Int.lt_or_le x.toInt 0 with h0 | h0
  · exact Or.inl h0
  · refine Or.inr ?_
    rcases Int.lt_or_le 39 x.toInt with h1 | h1
    · exact h1
    · exfalso
      obtain ⟨k, hk⟩ : ∃ k : Nat, x.toInt = k := ⟨x.toInt.toNat, (Int.toNat_of_nonneg h0).symm⟩
      refine h k (by omega) (Int32.toInt_inj.mp ?_)
      rw [hk, nI_toInt (by omega)]
set_option maxHeartbeats 1000000 in
theorem law_sw {p : Program} {l : Launch} {e : Env} {s : State} {m : MethodId} {below : List Frame} {meth : Method} {c : Code} {b Ln : Nat} {xq : Nat → Int32} {D : va_G} {σ : Nat × Nat × Value} {z : Value × Value} {L LM : Nat → Nat} {x : cst} {y : mst} {n i cells slots : Nat} {H : Heap} {locs : List Loc} {ls : Array Slot} {Q : State → Prop} (G : LG p s m meth c b Ln xq D σ z) (hs : Sim n x y) (hn : n ≤ 63) (hL : LW D L LM s x y H locs) (hl : lv_has ls 4 [(0, .ref b), (1, .ref (L 44)), (2, .ref (LM 0)), (3, .int (nI i))]) (hi : i + 6 ≤ Ln) (hcs : cells ≤ 1000 ∧ slots ≤ 100000) (v : Int32) (kk : ∀ (x' : cst) (y' : mst) (H1 : Heap) (locs1 : List Loc), Sim (n + 1) x' y' → LW D L LM s x' y' H1 locs1 → W p l e room_1 s m #[Value.ref b] below meth c H1 locs1 (cells + 1) (slots + 40) Q (F0 m 1399 ls [])) : W p l e room_1 s m #[Value.ref b] below meth c H locs cells slots Q (F0 m 33 ls [.int v]) := by
  have hx := G.1.1
  have hb := G.1.2.1
  by_cases c_0 : v = 0
  · exact lv_tableIn (off := 175) (tgt := 208) hx hb dL_law_33 (by rw [c_0]; decide) (by rw [c_0]; decide) (by rw [c_0]; rfl) (by decide) (lc_0 G hs hn hL hl hi hcs kk)
  by_cases c_1 : v = 1
  · exact lv_tableIn (off := 208) (tgt := 241) hx hb dL_law_33 (by rw [c_1]; decide) (by rw [c_1]; decide) (by rw [c_1]; rfl) (by decide) (lc_1 G hs hn hL hl hi hcs kk)
  by_cases c_2 : v = 2
  · exact lv_tableIn (off := 231) (tgt := 264) hx hb dL_law_33 (by rw [c_2]; decide) (by rw [c_2]; decide) (by rw [c_2]; rfl) (by decide) (lc_2 G hs hn hL hl hi hcs kk)
  by_cases c_3 : v = 3
  · exact lv_tableIn (off := 264) (tgt := 297) hx hb dL_law_33 (by rw [c_3]; decide) (by rw [c_3]; decide) (by rw [c_3]; rfl) (by decide) (lc_3 G hs hn hL hl hi hcs kk)
  by_cases c_4 : v = 4
  · exact lv_tableIn (off := 297) (tgt := 330) hx hb dL_law_33 (by rw [c_4]; decide) (by rw [c_4]; decide) (by rw [c_4]; rfl) (by decide) (lc_4 G hs hn hL hl hi hcs kk)
  by_cases c_5 : v = 5
  · exact lv_tableIn (off := 330) (tgt := 363) hx hb dL_law_33 (by rw [c_5]; decide) (by rw [c_5]; decide) (by rw [c_5]; rfl) (by decide) (lc_5 G hs hn hL hl hi hcs kk)
  by_cases c_6 : v = 6
  · exact lv_tableIn (off := 373) (tgt := 406) hx hb dL_law_33 (by rw [c_6]; decide) (by rw [c_6]; decide) (by rw [c_6]; rfl) (by decide) (lc_6 G hs hn hL hl hi hcs kk)
  by_cases c_7 : v = 7
  · exact lv_tableIn (off := 396) (tgt := 429) hx hb dL_law_33 (by rw [c_7]; decide) (by rw [c_7]; decide) (by rw [c_7]; rfl) (by decide) (lc_7 G hs hn hL hl hi hcs kk)
  by_cases c_8 : v = 8
  · exact lv_tableIn (off := 429) (tgt := 462) hx hb dL_law_33 (by rw [c_8]; decide) (by rw [c_8]; decide) (by rw [c_8]; rfl) (by decide) (lc_8 G hs hn hL hl hi hcs kk)
  by_cases c_9 : v = 9
  · exact lv_tableIn (off := 452) (tgt := 485) hx hb dL_law_33 (by rw [c_9]; decide) (by rw [c_9]; decide) (by rw [c_9]; rfl) (by decide) (lc_9 G hs hn hL hl hi hcs kk)
  by_cases c_10 : v = 10
  · exact lv_tableIn (off := 475) (tgt := 508) hx hb dL_law_33 (by rw [c_10]; decide) (by rw [c_10]; decide) (by rw [c_10]; rfl) (by decide) (lc_10 G hs hn hL hl hi hcs kk)
  by_cases c_11 : v = 11
  · exact lv_tableIn (off := 518) (tgt := 551) hx hb dL_law_33 (by rw [c_11]; decide) (by rw [c_11]; decide) (by rw [c_11]; rfl) (by decide) (lc_11 G hs hn hL hl hi hcs kk)
  by_cases c_12 : v = 12
  · exact lv_tableIn (off := 551) (tgt := 584) hx hb dL_law_33 (by rw [c_12]; decide) (by rw [c_12]; decide) (by rw [c_12]; rfl) (by decide) (lc_12 G hs hn hL hl hi hcs kk)
  by_cases c_13 : v = 13
  · exact lv_tableIn (off := 584) (tgt := 617) hx hb dL_law_33 (by rw [c_13]; decide) (by rw [c_13]; decide) (by rw [c_13]; rfl) (by decide) (lc_13 G hs hn hL hl hi hcs kk)
  by_cases c_14 : v = 14
  · exact lv_tableIn (off := 607) (tgt := 640) hx hb dL_law_33 (by rw [c_14]; decide) (by rw [c_14]; decide) (by rw [c_14]; rfl) (by decide) (lc_14 G hs hn hL hl hi hcs kk)
  by_cases c_15 : v = 15
  · exact lv_tableIn (off := 640) (tgt := 673) hx hb dL_law_33 (by rw [c_15]; decide) (by rw [c_15]; decide) (by rw [c_15]; rfl) (by decide) (lc_15 G hs hn hL hl hi hcs kk)
  by_cases c_16 : v = 16
  · exact lv_tableIn (off := 683) (tgt := 716) hx hb dL_law_33 (by rw [c_16]; decide) (by rw [c_16]; decide) (by rw [c_16]; rfl) (by decide) (lc_16 G hs hn hL hl hi hcs kk)
  by_cases c_17 : v = 17
  · exact lv_tableIn (off := 716) (tgt := 749) hx hb dL_law_33 (by rw [c_17]; decide) (by rw [c_17]; decide) (by rw [c_17]; rfl) (by decide) (lc_17 G hs hn hL hl hi hcs kk)
  by_cases c_18 : v = 18
  · exact lv_tableIn (off := 739) (tgt := 772) hx hb dL_law_33 (by rw [c_18]; decide) (by rw [c_18]; decide) (by rw [c_18]; rfl) (by decide) (lc_18 G hs hn hL hl hi hcs kk)
  by_cases c_19 : v = 19
  · exact lv_tableIn (off := 762) (tgt := 795) hx hb dL_law_33 (by rw [c_19]; decide) (by rw [c_19]; decide) (by rw [c_19]; rfl) (by decide) (lc_19 G hs hn hL hl hi hcs kk)
  by_cases c_20 : v = 20
  · exact lv_tableIn (off := 805) (tgt := 838) hx hb dL_law_33 (by rw [c_20]; decide) (by rw [c_20]; decide) (by rw [c_20]; rfl) (by decide) (lc_20 G hs hn hL hl hi hcs kk)
  by_cases c_21 : v = 21
  · exact lv_tableIn (off := 838) (tgt := 871) hx hb dL_law_33 (by rw [c_21]; decide) (by rw [c_21]; decide) (by rw [c_21]; rfl) (by decide) (lc_21 G hs hn hL hl hi hcs kk)
  by_cases c_22 : v = 22
  · exact lv_tableIn (off := 871) (tgt := 904) hx hb dL_law_33 (by rw [c_22]; decide) (by rw [c_22]; decide) (by rw [c_22]; rfl) (by decide) (lc_22 G hs hn hL hl hi hcs kk)
  by_cases c_23 : v = 23
  · exact lv_tableIn (off := 894) (tgt := 927) hx hb dL_law_33 (by rw [c_23]; decide) (by rw [c_23]; decide) (by rw [c_23]; rfl) (by decide) (lc_23 G hs hn hL hl hi hcs kk)
  by_cases c_24 : v = 24
  · exact lv_tableIn (off := 938) (tgt := 971) hx hb dL_law_33 (by rw [c_24]; decide) (by rw [c_24]; decide) (by rw [c_24]; rfl) (by decide) (lc_24 G hs hn hL hl hi hcs kk)
  by_cases c_25 : v = 25
  · exact lv_tableIn (off := 961) (tgt := 994) hx hb dL_law_33 (by rw [c_25]; decide) (by rw [c_25]; decide) (by rw [c_25]; rfl) (by decide) (lc_25 G hs hn hL hl hi hcs kk)
  by_cases c_26 : v = 26
  · exact lv_tableIn (off := 994) (tgt := 1027) hx hb dL_law_33 (by rw [c_26]; decide) (by rw [c_26]; decide) (by rw [c_26]; rfl) (by decide) (lc_26 G hs hn hL hl hi hcs kk)
  by_cases c_27 : v = 27
  · exact lv_tableIn (off := 1007) (tgt := 1040) hx hb dL_law_33 (by rw [c_27]; decide) (by rw [c_27]; decide) (by rw [c_27]; rfl) (by decide) (lc_27 G hs hn hL hl hi hcs kk)
  by_cases c_28 : v = 28
  · exact lv_tableIn (off := 1020) (tgt := 1053) hx hb dL_law_33 (by rw [c_28]; decide) (by rw [c_28]; decide) (by rw [c_28]; rfl) (by decide) (lc_28 G hs hn hL hl hi hcs kk)
  by_cases c_29 : v = 29
  · exact lv_tableIn (off := 1053) (tgt := 1086) hx hb dL_law_33 (by rw [c_29]; decide) (by rw [c_29]; decide) (by rw [c_29]; rfl) (by decide) (lc_29 G hs hn hL hl hi hcs kk)
  by_cases c_30 : v = 30
  · exact lv_tableIn (off := 1086) (tgt := 1119) hx hb dL_law_33 (by rw [c_30]; decide) (by rw [c_30]; decide) (by rw [c_30]; rfl) (by decide) (lc_30 G hs hn hL hl hi hcs kk)
  by_cases c_31 : v = 31
  · exact lv_tableIn (off := 1129) (tgt := 1162) hx hb dL_law_33 (by rw [c_31]; decide) (by rw [c_31]; decide) (by rw [c_31]; rfl) (by decide) (lc_31 G hs hn hL hl hi hcs kk)
  by_cases c_32 : v = 32
  · exact lv_tableIn (off := 1172) (tgt := 1205) hx hb dL_law_33 (by rw [c_32]; decide) (by rw [c_32]; decide) (by rw [c_32]; rfl) (by decide) (lc_32 G hs hn hL hl hi hcs kk)
  by_cases c_33 : v = 33
  · exact lv_tableIn (off := 1235) (tgt := 1268) hx hb dL_law_33 (by rw [c_33]; decide) (by rw [c_33]; decide) (by rw [c_33]; rfl) (by decide) (lc_33 G hs hn hL hl hi hcs kk)
  by_cases c_34 : v = 34
  · exact lv_tableIn (off := 1258) (tgt := 1291) hx hb dL_law_33 (by rw [c_34]; decide) (by rw [c_34]; decide) (by rw [c_34]; rfl) (by decide) (lc_34 G hs hn hL hl hi hcs kk)
  by_cases c_35 : v = 35
  · exact lv_tableIn (off := 1281) (tgt := 1314) hx hb dL_law_33 (by rw [c_35]; decide) (by rw [c_35]; decide) (by rw [c_35]; rfl) (by decide) (lc_35 G hs hn hL hl hi hcs kk)
  by_cases c_36 : v = 36
  · exact lv_tableIn (off := 1294) (tgt := 1327) hx hb dL_law_33 (by rw [c_36]; decide) (by rw [c_36]; decide) (by rw [c_36]; rfl) (by decide) (lc_36 G hs hn hL hl hi hcs kk)
  by_cases c_37 : v = 37
  · exact lv_tableIn (off := 1307) (tgt := 1340) hx hb dL_law_33 (by rw [c_37]; decide) (by rw [c_37]; decide) (by rw [c_37]; rfl) (by decide) (lc_37 G hs hn hL hl hi hcs kk)
  by_cases c_38 : v = 38
  · exact lv_tableIn (off := 1320) (tgt := 1353) hx hb dL_law_33 (by rw [c_38]; decide) (by rw [c_38]; decide) (by rw [c_38]; rfl) (by decide) (lc_38 G hs hn hL hl hi hcs kk)
  by_cases c_39 : v = 39
  · exact lv_tableIn (off := 1343) (tgt := 1376) hx hb dL_law_33 (by rw [c_39]; decide) (by rw [c_39]; decide) (by rw [c_39]; rfl) (by decide) (lc_39 G hs hn hL hl hi hcs kk)
  refine lv_tableOut (tgt := 1399) hx hb dL_law_33 (sw_x fun k hk => ?_) (by decide) ?_
  · match k, hk with
    | 0, _ => exact c_0
    | 1, _ => exact c_1
    | 2, _ => exact c_2
    | 3, _ => exact c_3
    | 4, _ => exact c_4
    | 5, _ => exact c_5
    | 6, _ => exact c_6
    | 7, _ => exact c_7
    | 8, _ => exact c_8
    | 9, _ => exact c_9
    | 10, _ => exact c_10
    | 11, _ => exact c_11
    | 12, _ => exact c_12
    | 13, _ => exact c_13
    | 14, _ => exact c_14
    | 15, _ => exact c_15
    | 16, _ => exact c_16
    | 17, _ => exact c_17
    | 18, _ => exact c_18
    | 19, _ => exact c_19
    | 20, _ => exact c_20
    | 21, _ => exact c_21
    | 22, _ => exact c_22
    | 23, _ => exact c_23
    | 24, _ => exact c_24
    | 25, _ => exact c_25
    | 26, _ => exact c_26
    | 27, _ => exact c_27
    | 28, _ => exact c_28
    | 29, _ => exact c_29
    | 30, _ => exact c_30
    | 31, _ => exact c_31
    | 32, _ => exact c_32
    | 33, _ => exact c_33
    | 34, _ => exact c_34
    | 35, _ => exact c_35
    | 36, _ => exact c_36
    | 37, _ => exact c_37
    | 38, _ => exact c_38
    | 39, _ => exact c_39
    | k + 40, hk => exact absurd hk (by omega)
  · exact W.widen (k := cells + 1) (n := slots + 40) (Nat.le_add_right _ _) (Nat.le_add_right _ _) (kk x y H locs (hs.mono (Nat.le_succ n)) hL)
theorem law_loop {p : Program} {l : Launch} {e : Env} {s : State} {m : MethodId} {below : List Frame} {meth : Method} {c : Code} {b Ln : Nat} {xq : Nat → Int32} {D : va_G} {σ : Nat × Nat × Value} {z : Value × Value} {L LM : Nat → Nat} (G : LG p s m meth c b Ln xq D σ z) : ∀ (fuel n : Nat), Ln + 6 ≤ 6 * n + fuel → n ≤ 64 → 6 * n ≤ Ln → ∀ (x : cst) (y : mst), Sim n x y → ∀ (H : Heap) (locs : List Loc), LW D L LM s x y H locs → ∀ (ls : Array Slot), lv_has ls 4 [(0, .ref b), (1, .ref (L 44)), (2, .ref (LM 0)), (3, .int (nI (6 * n)))] → W p l e room_1 s m #[Value.ref b] below meth c H locs (190 + n) (1576 + 40 * n) (lw_Z below #[Value.ref b] s) (F0 m 18 ls []) := by
  obtain ⟨hx, hb, hr, hml, hown, hts0, hXs, hbl, hlocks, hgv⟩ := G.1
  have hLn := G.2.2.2.2.2
  intro fuel
  induction fuel with
  | zero => intro n h1 h2 h3; omega
  | succ fuel ih =>
    intro n h1 h2 h3 x y hs H locs hL ls hl
    refine lv_iload_n hx hb dL_law_18 rfl (lv_at hl 3 rfl) ?_
    refine lv_aload_n hx hb dL_law_19 rfl (lv_at hl 0 rfl) ?_
    refine va_slen (A := A0l s) hx hb hXs hbl (Nat.not_le.mpr hbl) hL.2.2.1 dL_law_20 ?_
    refine lv_bipush (v := 6) hx hb dL_law_21 (by decide) ?_
    refine lv_isub hx hb dL_law_23 ?_
    refine lv_icmp_gt (tgt := 1405) hx hb dL_law_24 (by decide) (fun c_24 => ?_) (fun c_24 => ?_)
    · refine lv_iconst (v := 1) hx hb dL_law_1405 (by decide) ?_
      refine va_forget (fun q hq => hL.2.2.1.2.2 q hq) ?_
      refine W.widen (k := 814468) (n := 6652701) (by omega) (by omega) ?_
      exact lw_ret hx hb hr hlocks dL_law_1406
    · have hi : 6 * n + 6 ≤ Ln := by
        have := mt (gt_l (a := Ln) (i := 6 * n) (by omega) (by omega)).mpr c_24
        omega
      refine lv_aload_n hx hb dL_law_27 rfl (lv_at hl 0 rfl) ?_
      refine lv_iload_n hx hb dL_law_28 rfl (lv_at hl 3 rfl) ?_
      refine n_sld (k := 6 * n) hx hb hXs hbl hLn hL rfl (by omega) dL_law_29 ?_
      refine lv_bipush (v := 63) hx hb dL_law_30 (by decide) ?_
      refine lv_iand hx hb dL_law_32 ?_
      refine law_sw G hs (by omega) hL hl hi ⟨by omega, by omega⟩ _ (fun x' y' H1 locs1 hs hL => ?_)
      refine lv_iinc (v := nI (6 * (n + 1))) (lv' := [(3, .int (nI (6 * (n + 1)))), (0, .ref b), (1, .ref (L 44)), (2, .ref (LM 0))]) hx hb dL_law_1399 hl (k := 3) rfl (na_add (b := 6) rfl rfl) (by decide) rfl (fun ls hl => ?_)
      refine lv_goto (tgt := 18) hx hb dL_law_1402 (by decide) ?_
      exact ih (n + 1) (by omega) (by omega) (by omega) x' y' hs H1 locs1 hL ls (lv_sub hl [1, 2, 3, 0] rfl)
