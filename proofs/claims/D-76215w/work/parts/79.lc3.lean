/-! the law: its cases 28 to 39 -/
set_option maxHeartbeats 400000 in
theorem lc_28 {p : Program} {l : Launch} {e : Env} {s : State} {m : MethodId} {below : List Frame} {meth : Method} {c : Code} {b Ln : Nat} {xq : Nat → Int32} {D : va_G} {σ : Nat × Nat × Value} {z : Value × Value} {L LM : Nat → Nat} {x : cst} {y : mst} {n i cells slots : Nat} {H : Heap} {locs : List Loc} {ls : Array Slot} {Q : State → Prop} (G : LG p s m meth c b Ln xq D σ z) (hs : Sim n x y) (hn : n ≤ 63) (hL : LW D L LM s x y H locs) (hl : lv_has ls 4 [(0, .ref b), (1, .ref (L 44)), (2, .ref (LM 0)), (3, .int (nI i))]) (hi : i + 6 ≤ Ln) (hcs : cells ≤ 1000 ∧ slots ≤ 100000) (kk : ∀ (x' : cst) (y' : mst) (H1 : Heap) (locs1 : List Loc), Sim (n + 1) x' y' → LW D L LM s x' y' H1 locs1 → W p l e room_1 s m #[Value.ref b] below meth c H1 locs1 (cells + 1) (slots + 40) Q (F0 m 1399 ls [])) : W p l e room_1 s m #[Value.ref b] below meth c H locs cells slots Q (F0 m 1053 ls []) := by
  obtain ⟨⟨hx, hb, hr, hml, hown, hts0, hXs, hbl, hlocks, hgv⟩, hK, hSS, hσ, hX, hLn⟩ := G
  have hts : ∀ w ∈ lw_all, w.before #[Value.ref b] s = true := fun w h => hts0 w (lw_all_tbl h)
  have F : CallFix p m c code 4 s #[Value.ref b] lw_all R_law := ⟨hx, hb, hml, hown, hts⟩
  have e0 := hs.1.1
  have hO := hs.1.2.1
  have hd := hs.1.2.d (by omega)
  have hg := hs.1.2.2.1
  have hOM : wOk (y.1 0) := by rw [← e0]; exact hO
  have hdM : isN (y.1 0 1 2) 10000 := by rw [← e0]; exact hd
  have hgM : y.1 0 1 1 = 0 := by rw [← e0]; exact hg
  obtain ⟨t, ht, e1, e2⟩ := hs.2.2.1
  obtain ⟨hsh, hmk, hR⟩ := hs.2.2.2.2.2
  refine lv_aload_n hx hb dL_law_1053 rfl (lv_at hl 1 rfl) ?_
  refine lv_aload_n hx hb dL_law_1054 rfl (lv_at hl 0 rfl) ?_
  refine lv_iload_n hx hb dL_law_1055 rfl (lv_at hl 3 rfl) ?_
  refine lv_iconst (v := 1) hx hb dL_law_1056 (by decide) ?_
  refine lv_iadd hx hb dL_law_1057 ?_
  refine n_sld (k := i + 1) hx hb hXs hbl hLn hL (na_add (b := 1) rfl rfl) (by omega) dL_law_1058 ?_
  refine lv_aload_n hx hb dL_law_1059 rfl (lv_at hl 0 rfl) ?_
  refine lv_iload_n hx hb dL_law_1060 rfl (lv_at hl 3 rfl) ?_
  refine lv_iconst (v := 2) hx hb dL_law_1061 (by decide) ?_
  refine lv_iadd hx hb dL_law_1062 ?_
  refine n_sld (k := i + 2) hx hb hXs hbl hLn hL (na_add (b := 2) rfl rfl) (by omega) dL_law_1063 ?_
  refine L_C (va_Run.mono (k_V (As := [.int (xq (i + 1)), .int (xq (i + 2))]) (rest := []) F (k_X0_hold x  (xq (i + 1)) (xq (i + 2))) (cwV 2 hts (lw_V q1060 q1061 q1062 q91 q1063) rfl rfl rfl (by decide +kernel) ⟨Nat.le_of_ble_eq_true rfl, Nat.le_of_ble_eq_true rfl⟩) hL.1 hK (hw.recv hL.1 hK cf_main rfl) rfl hl.1 rfl (Nat.le_of_ble_eq_true rfl) dL_law_1064 ⟨show cells ≤ 814468 by omega, show slots ≤ 6652701 by omega⟩) nQ_C) hL (fun x2 H1 locs1 hP hL => ?_)
  refine W.widen (k := cells) (n := slots) (Nat.le_refl _) (Nat.le_refl _) ?_
  show W p l e room_1 s m #[Value.ref b] below meth c H1 locs1 cells slots Q (F0 m 1067 ls [.int (aR (a_hold (x.1 0) (xq (i + 1)) (xq (i + 2))))])
  refine lv_aload_n hx hb dL_law_1067 rfl (lv_at hl 2 rfl) ?_
  refine lv_aload_n hx hb dL_law_1068 rfl (lv_at hl 0 rfl) ?_
  refine lv_iload_n hx hb dL_law_1069 rfl (lv_at hl 3 rfl) ?_
  refine lv_iconst (v := 1) hx hb dL_law_1070 (by decide) ?_
  refine lv_iadd hx hb dL_law_1071 ?_
  refine n_sld (k := i + 1) hx hb hXs hbl hLn hL (na_add (b := 1) rfl rfl) (by omega) dL_law_1072 ?_
  refine lv_aload_n hx hb dL_law_1073 rfl (lv_at hl 0 rfl) ?_
  refine lv_iload_n hx hb dL_law_1074 rfl (lv_at hl 3 rfl) ?_
  refine lv_iconst (v := 2) hx hb dL_law_1075 (by decide) ?_
  refine lv_iadd hx hb dL_law_1076 ?_
  refine n_sld (k := i + 2) hx hb hXs hbl hLn hL (na_add (b := 2) rfl rfl) (by omega) dL_law_1077 ?_
  refine L_M (va_Run.mono (k_V (As := [.int (xq (i + 1)), .int (xq (i + 2))]) (rest := [.int (aR (a_hold (x.1 0) (xq (i + 1)) (xq (i + 2))))]) F (k_X13_hold y hOM (xq (i + 1)) (xq (i + 2))) (cwV 2 hts (lw_V q1572 q1573 q1574 q107 q1575) rfl rfl rfl (by decide +kernel) ⟨Nat.le_of_ble_eq_true rfl, Nat.le_of_ble_eq_true rfl⟩) hL.2.1 hK (hw.recv hL.2.1 hK mf_main rfl) rfl hl.1 rfl (Nat.le_of_ble_eq_true rfl) dL_law_1078 ⟨show cells ≤ 814468 by omega, show slots ≤ 6652701 by omega⟩) nQ_M) hL (fun y2 H1 locs1 hP2 hL => ?_)
  show W p l e room_1 s m #[Value.ref b] below meth c H1 locs1 cells slots Q (F0 m 1081 ls [.int (aR (a_hold (y.1 0) (xq (i + 1)) (xq (i + 2)))), .int (aR (a_hold (x.1 0) (xq (i + 1)) (xq (i + 2))))])
  have eq : (aR (a_hold (x.1 0) (xq (i + 1)) (xq (i + 2))) : Int32) = aR (a_hold (y.1 0) (xq (i + 1)) (xq (i + 2))) := by rw [e0]
  refine lv_icmp_eq (tgt := 1399) hx hb dL_law_1081 (by decide) (fun _ => ?_) (fun h => absurd eq h)
  refine W.widen (k := cells + 1) (n := slots + 40) (Nat.le_add_right _ _) (Nat.le_add_right _ _) ?_
  have hS2 : Sim (n + 1) (aC x (a_hold (x.1 0) (xq (i + 1)) (xq (i + 2)))) (aM y (a_hold (y.1 0) (xq (i + 1)) (xq (i + 2)))) := by rw [← e0]; exact Sim_act hs (Nat.le_succ n) _ (WS_hold (hs.1.2.mono (Nat.le_succ n)) _ _)
  exact kk x2 y2 H1 locs1 (hS2.j hP hP2) hL
set_option maxHeartbeats 400000 in
theorem lc_29 {p : Program} {l : Launch} {e : Env} {s : State} {m : MethodId} {below : List Frame} {meth : Method} {c : Code} {b Ln : Nat} {xq : Nat → Int32} {D : va_G} {σ : Nat × Nat × Value} {z : Value × Value} {L LM : Nat → Nat} {x : cst} {y : mst} {n i cells slots : Nat} {H : Heap} {locs : List Loc} {ls : Array Slot} {Q : State → Prop} (G : LG p s m meth c b Ln xq D σ z) (hs : Sim n x y) (hn : n ≤ 63) (hL : LW D L LM s x y H locs) (hl : lv_has ls 4 [(0, .ref b), (1, .ref (L 44)), (2, .ref (LM 0)), (3, .int (nI i))]) (hi : i + 6 ≤ Ln) (hcs : cells ≤ 1000 ∧ slots ≤ 100000) (kk : ∀ (x' : cst) (y' : mst) (H1 : Heap) (locs1 : List Loc), Sim (n + 1) x' y' → LW D L LM s x' y' H1 locs1 → W p l e room_1 s m #[Value.ref b] below meth c H1 locs1 (cells + 1) (slots + 40) Q (F0 m 1399 ls [])) : W p l e room_1 s m #[Value.ref b] below meth c H locs cells slots Q (F0 m 1086 ls []) := by
  obtain ⟨⟨hx, hb, hr, hml, hown, hts0, hXs, hbl, hlocks, hgv⟩, hK, hSS, hσ, hX, hLn⟩ := G
  have hts : ∀ w ∈ lw_all, w.before #[Value.ref b] s = true := fun w h => hts0 w (lw_all_tbl h)
  have F : CallFix p m c code 4 s #[Value.ref b] lw_all R_law := ⟨hx, hb, hml, hown, hts⟩
  have e0 := hs.1.1
  have hO := hs.1.2.1
  have hd := hs.1.2.d (by omega)
  have hg := hs.1.2.2.1
  have hOM : wOk (y.1 0) := by rw [← e0]; exact hO
  have hdM : isN (y.1 0 1 2) 10000 := by rw [← e0]; exact hd
  have hgM : y.1 0 1 1 = 0 := by rw [← e0]; exact hg
  obtain ⟨t, ht, e1, e2⟩ := hs.2.2.1
  obtain ⟨hsh, hmk, hR⟩ := hs.2.2.2.2.2
  refine lv_aload_n hx hb dL_law_1086 rfl (lv_at hl 1 rfl) ?_
  refine lv_aload_n hx hb dL_law_1087 rfl (lv_at hl 0 rfl) ?_
  refine lv_iload_n hx hb dL_law_1088 rfl (lv_at hl 3 rfl) ?_
  refine lv_iconst (v := 1) hx hb dL_law_1089 (by decide) ?_
  refine lv_iadd hx hb dL_law_1090 ?_
  refine n_sld (k := i + 1) hx hb hXs hbl hLn hL (na_add (b := 1) rfl rfl) (by omega) dL_law_1091 ?_
  refine lv_aload_n hx hb dL_law_1092 rfl (lv_at hl 0 rfl) ?_
  refine lv_iload_n hx hb dL_law_1093 rfl (lv_at hl 3 rfl) ?_
  refine lv_iconst (v := 2) hx hb dL_law_1094 (by decide) ?_
  refine lv_iadd hx hb dL_law_1095 ?_
  refine n_sld (k := i + 2) hx hb hXs hbl hLn hL (na_add (b := 2) rfl rfl) (by omega) dL_law_1096 ?_
  refine L_C (va_Run.mono (k_V (As := [.int (xq (i + 1)), .int (xq (i + 2))]) (rest := []) F (k_X0_as x hO (xq (i + 1)) (xq (i + 2))) (cwV 2 hts (lw_V q1067 q1068 q1069 q91 q1070) rfl rfl rfl (by decide +kernel) ⟨Nat.le_of_ble_eq_true rfl, Nat.le_of_ble_eq_true rfl⟩) hL.1 hK (hw.recv hL.1 hK cf_main rfl) rfl hl.1 rfl (Nat.le_of_ble_eq_true rfl) dL_law_1097 ⟨show cells ≤ 814468 by omega, show slots ≤ 6652701 by omega⟩) jQ_C) hL (fun x2 H1 locs1 hP hL => ?_)
  refine W.widen (k := cells) (n := slots) (Nat.le_refl _) (Nat.le_refl _) ?_
  show W p l e room_1 s m #[Value.ref b] below meth c H1 locs1 cells slots Q (F0 m 1100 ls [.int (aR (a_as (x.1 0) (xq (i + 1)) (xq (i + 2))))])
  refine lv_aload_n hx hb dL_law_1100 rfl (lv_at hl 2 rfl) ?_
  refine lv_aload_n hx hb dL_law_1101 rfl (lv_at hl 0 rfl) ?_
  refine lv_iload_n hx hb dL_law_1102 rfl (lv_at hl 3 rfl) ?_
  refine lv_iconst (v := 1) hx hb dL_law_1103 (by decide) ?_
  refine lv_iadd hx hb dL_law_1104 ?_
  refine n_sld (k := i + 1) hx hb hXs hbl hLn hL (na_add (b := 1) rfl rfl) (by omega) dL_law_1105 ?_
  refine lv_aload_n hx hb dL_law_1106 rfl (lv_at hl 0 rfl) ?_
  refine lv_iload_n hx hb dL_law_1107 rfl (lv_at hl 3 rfl) ?_
  refine lv_iconst (v := 2) hx hb dL_law_1108 (by decide) ?_
  refine lv_iadd hx hb dL_law_1109 ?_
  refine n_sld (k := i + 2) hx hb hXs hbl hLn hL (na_add (b := 2) rfl rfl) (by omega) dL_law_1110 ?_
  refine L_M (va_Run.mono (k_V (As := [.int (xq (i + 1)), .int (xq (i + 2))]) (rest := [.int (aR (a_as (x.1 0) (xq (i + 1)) (xq (i + 2))))]) F (k_X13_as y hOM (xq (i + 1)) (xq (i + 2))) (cwV 2 hts (lw_V q1578 q1579 q1580 q107 q1581) rfl rfl rfl (by decide +kernel) ⟨Nat.le_of_ble_eq_true rfl, Nat.le_of_ble_eq_true rfl⟩) hL.2.1 hK (hw.recv hL.2.1 hK mf_main rfl) rfl hl.1 rfl (Nat.le_of_ble_eq_true rfl) dL_law_1111 ⟨show cells ≤ 814468 by omega, show slots ≤ 6652701 by omega⟩) nQ_M) hL (fun y2 H1 locs1 hP2 hL => ?_)
  show W p l e room_1 s m #[Value.ref b] below meth c H1 locs1 cells slots Q (F0 m 1114 ls [.int (aR (a_as (y.1 0) (xq (i + 1)) (xq (i + 2)))), .int (aR (a_as (x.1 0) (xq (i + 1)) (xq (i + 2))))])
  have eq : (aR (a_as (x.1 0) (xq (i + 1)) (xq (i + 2))) : Int32) = aR (a_as (y.1 0) (xq (i + 1)) (xq (i + 2))) := by rw [e0]
  refine lv_icmp_eq (tgt := 1399) hx hb dL_law_1114 (by decide) (fun _ => ?_) (fun h => absurd eq h)
  refine W.widen (k := cells + 1) (n := slots + 40) (Nat.le_add_right _ _) (Nat.le_add_right _ _) ?_
  have hS2 : Sim (n + 1) (aC x (a_as (x.1 0) (xq (i + 1)) (xq (i + 2)))) (aM y (a_as (y.1 0) (xq (i + 1)) (xq (i + 2)))) := by rw [← e0]; exact Sim_rd hs _ (rd_as _ _ _)
  exact kk x2 y2 H1 locs1 (hS2.j hP hP2) hL
set_option maxHeartbeats 400000 in
theorem lc_30 {p : Program} {l : Launch} {e : Env} {s : State} {m : MethodId} {below : List Frame} {meth : Method} {c : Code} {b Ln : Nat} {xq : Nat → Int32} {D : va_G} {σ : Nat × Nat × Value} {z : Value × Value} {L LM : Nat → Nat} {x : cst} {y : mst} {n i cells slots : Nat} {H : Heap} {locs : List Loc} {ls : Array Slot} {Q : State → Prop} (G : LG p s m meth c b Ln xq D σ z) (hs : Sim n x y) (hn : n ≤ 63) (hL : LW D L LM s x y H locs) (hl : lv_has ls 4 [(0, .ref b), (1, .ref (L 44)), (2, .ref (LM 0)), (3, .int (nI i))]) (hi : i + 6 ≤ Ln) (hcs : cells ≤ 1000 ∧ slots ≤ 100000) (kk : ∀ (x' : cst) (y' : mst) (H1 : Heap) (locs1 : List Loc), Sim (n + 1) x' y' → LW D L LM s x' y' H1 locs1 → W p l e room_1 s m #[Value.ref b] below meth c H1 locs1 (cells + 1) (slots + 40) Q (F0 m 1399 ls [])) : W p l e room_1 s m #[Value.ref b] below meth c H locs cells slots Q (F0 m 1119 ls []) := by
  obtain ⟨⟨hx, hb, hr, hml, hown, hts0, hXs, hbl, hlocks, hgv⟩, hK, hSS, hσ, hX, hLn⟩ := G
  have hts : ∀ w ∈ lw_all, w.before #[Value.ref b] s = true := fun w h => hts0 w (lw_all_tbl h)
  have F : CallFix p m c code 4 s #[Value.ref b] lw_all R_law := ⟨hx, hb, hml, hown, hts⟩
  have e0 := hs.1.1
  have hO := hs.1.2.1
  have hd := hs.1.2.d (by omega)
  have hg := hs.1.2.2.1
  have hOM : wOk (y.1 0) := by rw [← e0]; exact hO
  have hdM : isN (y.1 0 1 2) 10000 := by rw [← e0]; exact hd
  have hgM : y.1 0 1 1 = 0 := by rw [← e0]; exact hg
  obtain ⟨t, ht, e1, e2⟩ := hs.2.2.1
  obtain ⟨hsh, hmk, hR⟩ := hs.2.2.2.2.2
  refine lv_aload_n hx hb dL_law_1119 rfl (lv_at hl 1 rfl) ?_
  refine lv_aload_n hx hb dL_law_1120 rfl (lv_at hl 0 rfl) ?_
  refine lv_iload_n hx hb dL_law_1121 rfl (lv_at hl 3 rfl) ?_
  refine lv_iconst (v := 1) hx hb dL_law_1122 (by decide) ?_
  refine lv_iadd hx hb dL_law_1123 ?_
  refine n_sld (k := i + 1) hx hb hXs hbl hLn hL (na_add (b := 1) rfl rfl) (by omega) dL_law_1124 ?_
  refine lv_aload_n hx hb dL_law_1125 rfl (lv_at hl 0 rfl) ?_
  refine lv_iload_n hx hb dL_law_1126 rfl (lv_at hl 3 rfl) ?_
  refine lv_iconst (v := 2) hx hb dL_law_1127 (by decide) ?_
  refine lv_iadd hx hb dL_law_1128 ?_
  refine n_sld (k := i + 2) hx hb hXs hbl hLn hL (na_add (b := 2) rfl rfl) (by omega) dL_law_1129 ?_
  refine lv_aload_n hx hb dL_law_1130 rfl (lv_at hl 0 rfl) ?_
  refine lv_iload_n hx hb dL_law_1131 rfl (lv_at hl 3 rfl) ?_
  refine lv_iconst (v := 3) hx hb dL_law_1132 (by decide) ?_
  refine lv_iadd hx hb dL_law_1133 ?_
  refine n_sld (k := i + 3) hx hb hXs hbl hLn hL (na_add (b := 3) rfl rfl) (by omega) dL_law_1134 ?_
  refine L_C (va_Run.mono (va_runV (As := [.int (xq (i + 1)), .int (xq (i + 2)), .int (xq (i + 3))]) (rest := []) F (n_X0_sheet x (xq (i + 1)) (xq (i + 2)) (xq (i + 3))) (cwV 3 hts (lw_V q1099 q1100 q1101 q91 q1102) rfl rfl rfl (by decide +kernel) ⟨Nat.le_of_ble_eq_true rfl, Nat.le_of_ble_eq_true rfl⟩) ⟨pN_blind, hw.recv hL.1 hK cf_main rfl, pN_law hL hK hX⟩ rfl rfl hl.1 rfl (lv_room (Nat.le_of_ble_eq_true rfl)) dL_law_1135 ⟨show cells + 1 ≤ 814468 by omega, show slots + 40 ≤ 6652701 by omega⟩) sQ_C) hL (fun x2 H1 locs1 hP hL => ?_)
  show W p l e room_1 s m #[Value.ref b] below meth c H1 locs1 (cells + 1) (slots + 40) Q (F0 m 1138 ls [.int (aS (a_sheet (xq (i + 1)) (xq (i + 2)) (xq (i + 3))))])
  refine lv_aload_n hx hb dL_law_1138 rfl (lv_at hl 2 rfl) ?_
  refine lv_aload_n hx hb dL_law_1139 rfl (lv_at hl 0 rfl) ?_
  refine lv_iload_n hx hb dL_law_1140 rfl (lv_at hl 3 rfl) ?_
  refine lv_iconst (v := 1) hx hb dL_law_1141 (by decide) ?_
  refine lv_iadd hx hb dL_law_1142 ?_
  refine n_sld (k := i + 1) hx hb hXs hbl hLn hL (na_add (b := 1) rfl rfl) (by omega) dL_law_1143 ?_
  refine lv_aload_n hx hb dL_law_1144 rfl (lv_at hl 0 rfl) ?_
  refine lv_iload_n hx hb dL_law_1145 rfl (lv_at hl 3 rfl) ?_
  refine lv_iconst (v := 2) hx hb dL_law_1146 (by decide) ?_
  refine lv_iadd hx hb dL_law_1147 ?_
  refine n_sld (k := i + 2) hx hb hXs hbl hLn hL (na_add (b := 2) rfl rfl) (by omega) dL_law_1148 ?_
  refine lv_aload_n hx hb dL_law_1149 rfl (lv_at hl 0 rfl) ?_
  refine lv_iload_n hx hb dL_law_1150 rfl (lv_at hl 3 rfl) ?_
  refine lv_iconst (v := 3) hx hb dL_law_1151 (by decide) ?_
  refine lv_iadd hx hb dL_law_1152 ?_
  refine n_sld (k := i + 3) hx hb hXs hbl hLn hL (na_add (b := 3) rfl rfl) (by omega) dL_law_1153 ?_
  refine L_M (va_Run.mono (k_V (As := [.int (xq (i + 1)), .int (xq (i + 2)), .int (xq (i + 3))]) (rest := [.int (aS (a_sheet (xq (i + 1)) (xq (i + 2)) (xq (i + 3))))]) F (k_X13_sheet y (xq (i + 1)) (xq (i + 2)) (xq (i + 3))) (cwV 3 hts (lw_V q1585 q1586 q1587 q107 q1588) rfl rfl rfl (by decide +kernel) ⟨Nat.le_of_ble_eq_true rfl, Nat.le_of_ble_eq_true rfl⟩) hL.2.1 hK (hw.recv hL.2.1 hK mf_main rfl) rfl hl.1 rfl (Nat.le_of_ble_eq_true rfl) dL_law_1154 ⟨show cells + 1 ≤ 814468 by omega, show slots + 40 ≤ 6652701 by omega⟩) nQ_M) hL (fun y2 H1 locs1 hP2 hL => ?_)
  show W p l e room_1 s m #[Value.ref b] below meth c H1 locs1 (cells + 1) (slots + 40) Q (F0 m 1157 ls [.int (aS (a_sheet (xq (i + 1)) (xq (i + 2)) (xq (i + 3)))), .int (aS (a_sheet (xq (i + 1)) (xq (i + 2)) (xq (i + 3))))])
  have eq : (aS (a_sheet (xq (i + 1)) (xq (i + 2)) (xq (i + 3))) : Int32) = aS (a_sheet (xq (i + 1)) (xq (i + 2)) (xq (i + 3))) := rfl
  refine lv_icmp_eq (tgt := 1399) hx hb dL_law_1157 (by decide) (fun _ => ?_) (fun h => absurd eq h)
  have hS2 : Sim (n + 1) x2 (aMS y (xq (i + 1)) (xq (i + 2)) (xq (i + 3)) (a_sheet (xq (i + 1)) (xq (i + 2)) (xq (i + 3)))) := Sim_sheet hs _ _ _ hP
  exact kk x2 y2 H1 locs1 (hS2.j jk_rfl hP2) hL
set_option maxHeartbeats 400000 in
theorem lc_31 {p : Program} {l : Launch} {e : Env} {s : State} {m : MethodId} {below : List Frame} {meth : Method} {c : Code} {b Ln : Nat} {xq : Nat → Int32} {D : va_G} {σ : Nat × Nat × Value} {z : Value × Value} {L LM : Nat → Nat} {x : cst} {y : mst} {n i cells slots : Nat} {H : Heap} {locs : List Loc} {ls : Array Slot} {Q : State → Prop} (G : LG p s m meth c b Ln xq D σ z) (hs : Sim n x y) (hn : n ≤ 63) (hL : LW D L LM s x y H locs) (hl : lv_has ls 4 [(0, .ref b), (1, .ref (L 44)), (2, .ref (LM 0)), (3, .int (nI i))]) (hi : i + 6 ≤ Ln) (hcs : cells ≤ 1000 ∧ slots ≤ 100000) (kk : ∀ (x' : cst) (y' : mst) (H1 : Heap) (locs1 : List Loc), Sim (n + 1) x' y' → LW D L LM s x' y' H1 locs1 → W p l e room_1 s m #[Value.ref b] below meth c H1 locs1 (cells + 1) (slots + 40) Q (F0 m 1399 ls [])) : W p l e room_1 s m #[Value.ref b] below meth c H locs cells slots Q (F0 m 1162 ls []) := by
  obtain ⟨⟨hx, hb, hr, hml, hown, hts0, hXs, hbl, hlocks, hgv⟩, hK, hSS, hσ, hX, hLn⟩ := G
  have hts : ∀ w ∈ lw_all, w.before #[Value.ref b] s = true := fun w h => hts0 w (lw_all_tbl h)
  have F : CallFix p m c code 4 s #[Value.ref b] lw_all R_law := ⟨hx, hb, hml, hown, hts⟩
  have e0 := hs.1.1
  have hO := hs.1.2.1
  have hd := hs.1.2.d (by omega)
  have hg := hs.1.2.2.1
  have hOM : wOk (y.1 0) := by rw [← e0]; exact hO
  have hdM : isN (y.1 0 1 2) 10000 := by rw [← e0]; exact hd
  have hgM : y.1 0 1 1 = 0 := by rw [← e0]; exact hg
  obtain ⟨t, ht, e1, e2⟩ := hs.2.2.1
  obtain ⟨hsh, hmk, hR⟩ := hs.2.2.2.2.2
  refine lv_aload_n hx hb dL_law_1162 rfl (lv_at hl 1 rfl) ?_
  refine lv_aload_n hx hb dL_law_1163 rfl (lv_at hl 0 rfl) ?_
  refine lv_iload_n hx hb dL_law_1164 rfl (lv_at hl 3 rfl) ?_
  refine lv_iconst (v := 1) hx hb dL_law_1165 (by decide) ?_
  refine lv_iadd hx hb dL_law_1166 ?_
  refine n_sld (k := i + 1) hx hb hXs hbl hLn hL (na_add (b := 1) rfl rfl) (by omega) dL_law_1167 ?_
  refine lv_aload_n hx hb dL_law_1168 rfl (lv_at hl 0 rfl) ?_
  refine lv_iload_n hx hb dL_law_1169 rfl (lv_at hl 3 rfl) ?_
  refine lv_iconst (v := 2) hx hb dL_law_1170 (by decide) ?_
  refine lv_iadd hx hb dL_law_1171 ?_
  refine n_sld (k := i + 2) hx hb hXs hbl hLn hL (na_add (b := 2) rfl rfl) (by omega) dL_law_1172 ?_
  refine lv_aload_n hx hb dL_law_1173 rfl (lv_at hl 0 rfl) ?_
  refine lv_iload_n hx hb dL_law_1174 rfl (lv_at hl 3 rfl) ?_
  refine lv_iconst (v := 3) hx hb dL_law_1175 (by decide) ?_
  refine lv_iadd hx hb dL_law_1176 ?_
  refine n_sld (k := i + 3) hx hb hXs hbl hLn hL (na_add (b := 3) rfl rfl) (by omega) dL_law_1177 ?_
  refine L_C (va_Run.mono (k_VW (n := 3) (As := [.int (xq (i + 1)), .int (xq (i + 2)), .int (xq (i + 3))]) (rest := []) F (k_X0_write x hsh (xq (i + 1)) (xq (i + 2)) (xq (i + 3))) ⟨rfl, rfl⟩ ⟨Nat.le_of_ble_eq_true rfl, Nat.le_of_ble_eq_true rfl⟩ q1104 q1105 q1106 q91 q1107 (by decide +kernel) hL.1 hK (hw.recv hL.1 hK cf_main rfl) rfl hl.1 rfl (Nat.le_of_ble_eq_true rfl) dL_law_1178 ⟨show cells ≤ 814468 by omega, show slots ≤ 6652701 by omega⟩) jQ_C) hL (fun x2 H1 locs1 hP hL => ?_)
  refine W.widen (k := cells) (n := slots) (Nat.le_refl _) (Nat.le_refl _) ?_
  show W p l e room_1 s m #[Value.ref b] below meth c H1 locs1 cells slots Q (F0 m 1181 ls [.int (aW (fun _ => 1) (a_write (shC x) (xq (i + 1)) (xq (i + 2)) (xq (i + 3))))])
  refine lv_aload_n hx hb dL_law_1181 rfl (lv_at hl 2 rfl) ?_
  refine lv_aload_n hx hb dL_law_1182 rfl (lv_at hl 0 rfl) ?_
  refine lv_iload_n hx hb dL_law_1183 rfl (lv_at hl 3 rfl) ?_
  refine lv_iconst (v := 1) hx hb dL_law_1184 (by decide) ?_
  refine lv_iadd hx hb dL_law_1185 ?_
  refine n_sld (k := i + 1) hx hb hXs hbl hLn hL (na_add (b := 1) rfl rfl) (by omega) dL_law_1186 ?_
  refine lv_aload_n hx hb dL_law_1187 rfl (lv_at hl 0 rfl) ?_
  refine lv_iload_n hx hb dL_law_1188 rfl (lv_at hl 3 rfl) ?_
  refine lv_iconst (v := 2) hx hb dL_law_1189 (by decide) ?_
  refine lv_iadd hx hb dL_law_1190 ?_
  refine n_sld (k := i + 2) hx hb hXs hbl hLn hL (na_add (b := 2) rfl rfl) (by omega) dL_law_1191 ?_
  refine lv_aload_n hx hb dL_law_1192 rfl (lv_at hl 0 rfl) ?_
  refine lv_iload_n hx hb dL_law_1193 rfl (lv_at hl 3 rfl) ?_
  refine lv_iconst (v := 3) hx hb dL_law_1194 (by decide) ?_
  refine lv_iadd hx hb dL_law_1195 ?_
  refine n_sld (k := i + 3) hx hb hXs hbl hLn hL (na_add (b := 3) rfl rfl) (by omega) dL_law_1196 ?_
  refine L_M (va_Run.mono (k_V (As := [.int (xq (i + 1)), .int (xq (i + 2)), .int (xq (i + 3))]) (rest := [.int (aW (fun _ => 1) (a_write (shC x) (xq (i + 1)) (xq (i + 2)) (xq (i + 3))))]) F (k_X13_write y hmk (xq (i + 1)) (xq (i + 2)) (xq (i + 3))) (cwV 3 hts (lw_V q1589 q1590 q1591 q107 q1592) rfl rfl rfl (by decide +kernel) ⟨Nat.le_of_ble_eq_true rfl, Nat.le_of_ble_eq_true rfl⟩) hL.2.1 hK (hw.recv hL.2.1 hK mf_main rfl) rfl hl.1 rfl (Nat.le_of_ble_eq_true rfl) dL_law_1197 ⟨show cells ≤ 814468 by omega, show slots ≤ 6652701 by omega⟩) nQ_M) hL (fun y2 H1 locs1 hP2 hL => ?_)
  show W p l e room_1 s m #[Value.ref b] below meth c H1 locs1 cells slots Q (F0 m 1200 ls [.int (aW (fun _ => 1) (a_write (shMq y) (xq (i + 1)) (xq (i + 2)) (xq (i + 3)))), .int (aW (fun _ => 1) (a_write (shC x) (xq (i + 1)) (xq (i + 2)) (xq (i + 3))))])
  have eq : (aW (fun _ => 1) (a_write (shC x) (xq (i + 1)) (xq (i + 2)) (xq (i + 3))) : Int32) = aW (fun _ => 1) (a_write (shMq y) (xq (i + 1)) (xq (i + 2)) (xq (i + 3))) := by rw [write_c hR]
  refine lv_icmp_eq (tgt := 1399) hx hb dL_law_1200 (by decide) (fun _ => ?_) (fun h => absurd eq h)
  refine W.widen (k := cells + 1) (n := slots + 40) (Nat.le_add_right _ _) (Nat.le_add_right _ _) ?_
  have hS2 : Sim (n + 1) (aCW x (a_write (shC x) (xq (i + 1)) (xq (i + 2)) (xq (i + 3)))) (aMW y (a_write (shMq y) (xq (i + 1)) (xq (i + 2)) (xq (i + 3)))) := Sim_write hs _ _ _
  exact kk x2 y2 H1 locs1 (hS2.j hP hP2) hL
set_option maxHeartbeats 400000 in
theorem lc_32 {p : Program} {l : Launch} {e : Env} {s : State} {m : MethodId} {below : List Frame} {meth : Method} {c : Code} {b Ln : Nat} {xq : Nat → Int32} {D : va_G} {σ : Nat × Nat × Value} {z : Value × Value} {L LM : Nat → Nat} {x : cst} {y : mst} {n i cells slots : Nat} {H : Heap} {locs : List Loc} {ls : Array Slot} {Q : State → Prop} (G : LG p s m meth c b Ln xq D σ z) (hs : Sim n x y) (hn : n ≤ 63) (hL : LW D L LM s x y H locs) (hl : lv_has ls 4 [(0, .ref b), (1, .ref (L 44)), (2, .ref (LM 0)), (3, .int (nI i))]) (hi : i + 6 ≤ Ln) (hcs : cells ≤ 1000 ∧ slots ≤ 100000) (kk : ∀ (x' : cst) (y' : mst) (H1 : Heap) (locs1 : List Loc), Sim (n + 1) x' y' → LW D L LM s x' y' H1 locs1 → W p l e room_1 s m #[Value.ref b] below meth c H1 locs1 (cells + 1) (slots + 40) Q (F0 m 1399 ls [])) : W p l e room_1 s m #[Value.ref b] below meth c H locs cells slots Q (F0 m 1205 ls []) := by
  obtain ⟨⟨hx, hb, hr, hml, hown, hts0, hXs, hbl, hlocks, hgv⟩, hK, hSS, hσ, hX, hLn⟩ := G
  have hts : ∀ w ∈ lw_all, w.before #[Value.ref b] s = true := fun w h => hts0 w (lw_all_tbl h)
  have F : CallFix p m c code 4 s #[Value.ref b] lw_all R_law := ⟨hx, hb, hml, hown, hts⟩
  have e0 := hs.1.1
  have hO := hs.1.2.1
  have hd := hs.1.2.d (by omega)
  have hg := hs.1.2.2.1
  have hOM : wOk (y.1 0) := by rw [← e0]; exact hO
  have hdM : isN (y.1 0 1 2) 10000 := by rw [← e0]; exact hd
  have hgM : y.1 0 1 1 = 0 := by rw [← e0]; exact hg
  obtain ⟨t, ht, e1, e2⟩ := hs.2.2.1
  obtain ⟨hsh, hmk, hR⟩ := hs.2.2.2.2.2
  refine lv_aload_n hx hb dL_law_1205 rfl (lv_at hl 1 rfl) ?_
  refine lv_aload_n hx hb dL_law_1206 rfl (lv_at hl 0 rfl) ?_
  refine lv_iload_n hx hb dL_law_1207 rfl (lv_at hl 3 rfl) ?_
  refine lv_iconst (v := 1) hx hb dL_law_1208 (by decide) ?_
  refine lv_iadd hx hb dL_law_1209 ?_
  refine n_sld (k := i + 1) hx hb hXs hbl hLn hL (na_add (b := 1) rfl rfl) (by omega) dL_law_1210 ?_
  refine lv_aload_n hx hb dL_law_1211 rfl (lv_at hl 0 rfl) ?_
  refine lv_iload_n hx hb dL_law_1212 rfl (lv_at hl 3 rfl) ?_
  refine lv_iconst (v := 2) hx hb dL_law_1213 (by decide) ?_
  refine lv_iadd hx hb dL_law_1214 ?_
  refine n_sld (k := i + 2) hx hb hXs hbl hLn hL (na_add (b := 2) rfl rfl) (by omega) dL_law_1215 ?_
  refine lv_aload_n hx hb dL_law_1216 rfl (lv_at hl 0 rfl) ?_
  refine lv_iload_n hx hb dL_law_1217 rfl (lv_at hl 3 rfl) ?_
  refine lv_iconst (v := 3) hx hb dL_law_1218 (by decide) ?_
  refine lv_iadd hx hb dL_law_1219 ?_
  refine n_sld (k := i + 3) hx hb hXs hbl hLn hL (na_add (b := 3) rfl rfl) (by omega) dL_law_1220 ?_
  refine lv_aload_n hx hb dL_law_1221 rfl (lv_at hl 0 rfl) ?_
  refine lv_iload_n hx hb dL_law_1222 rfl (lv_at hl 3 rfl) ?_
  refine lv_iconst (v := 4) hx hb dL_law_1223 (by decide) ?_
  refine lv_iadd hx hb dL_law_1224 ?_
  refine n_sld (k := i + 4) hx hb hXs hbl hLn hL (na_add (b := 4) rfl rfl) (by omega) dL_law_1225 ?_
  refine lv_aload_n hx hb dL_law_1226 rfl (lv_at hl 0 rfl) ?_
  refine lv_iload_n hx hb dL_law_1227 rfl (lv_at hl 3 rfl) ?_
  refine lv_iconst (v := 5) hx hb dL_law_1228 (by decide) ?_
  refine lv_iadd hx hb dL_law_1229 ?_
  refine n_sld (k := i + 5) hx hb hXs hbl hLn hL (na_add (b := 5) rfl rfl) (by omega) dL_law_1230 ?_
  refine L_C (va_Run.mono (k_VW (n := 5) (As := [.int (xq (i + 1)), .int (xq (i + 2)), .int (xq (i + 3)), .int (xq (i + 4)), .int (xq (i + 5))]) (rest := []) F (k_X0_copy x hsh (xq (i + 1)) (xq (i + 2)) (xq (i + 3)) (xq (i + 4)) (xq (i + 5))) ⟨rfl, rfl⟩ ⟨Nat.le_of_ble_eq_true rfl, Nat.le_of_ble_eq_true rfl⟩ q1111 q1112 q1113 q91 q1114 (by decide +kernel) hL.1 hK (hw.recv hL.1 hK cf_main rfl) rfl hl.1 rfl (Nat.le_of_ble_eq_true rfl) dL_law_1231 ⟨show cells ≤ 814468 by omega, show slots ≤ 6652701 by omega⟩) jQ_C) hL (fun x2 H1 locs1 hP hL => ?_)
  refine W.widen (k := cells) (n := slots) (Nat.le_refl _) (Nat.le_refl _) ?_
  show W p l e room_1 s m #[Value.ref b] below meth c H1 locs1 cells slots Q (F0 m 1234 ls [.int (aW (fun _ => xq (i + 5)) (a_copy (shC x) (xq (i + 1)) (xq (i + 2)) (xq (i + 3)) (xq (i + 4)) (xq (i + 5))))])
  refine lv_aload_n hx hb dL_law_1234 rfl (lv_at hl 2 rfl) ?_
  refine lv_aload_n hx hb dL_law_1235 rfl (lv_at hl 0 rfl) ?_
  refine lv_iload_n hx hb dL_law_1236 rfl (lv_at hl 3 rfl) ?_
  refine lv_iconst (v := 1) hx hb dL_law_1237 (by decide) ?_
  refine lv_iadd hx hb dL_law_1238 ?_
  refine n_sld (k := i + 1) hx hb hXs hbl hLn hL (na_add (b := 1) rfl rfl) (by omega) dL_law_1239 ?_
  refine lv_aload_n hx hb dL_law_1240 rfl (lv_at hl 0 rfl) ?_
  refine lv_iload_n hx hb dL_law_1241 rfl (lv_at hl 3 rfl) ?_
  refine lv_iconst (v := 2) hx hb dL_law_1242 (by decide) ?_
  refine lv_iadd hx hb dL_law_1243 ?_
  refine n_sld (k := i + 2) hx hb hXs hbl hLn hL (na_add (b := 2) rfl rfl) (by omega) dL_law_1244 ?_
  refine lv_aload_n hx hb dL_law_1245 rfl (lv_at hl 0 rfl) ?_
  refine lv_iload_n hx hb dL_law_1246 rfl (lv_at hl 3 rfl) ?_
  refine lv_iconst (v := 3) hx hb dL_law_1247 (by decide) ?_
  refine lv_iadd hx hb dL_law_1248 ?_
  refine n_sld (k := i + 3) hx hb hXs hbl hLn hL (na_add (b := 3) rfl rfl) (by omega) dL_law_1249 ?_
  refine lv_aload_n hx hb dL_law_1250 rfl (lv_at hl 0 rfl) ?_
  refine lv_iload_n hx hb dL_law_1251 rfl (lv_at hl 3 rfl) ?_
  refine lv_iconst (v := 4) hx hb dL_law_1252 (by decide) ?_
  refine lv_iadd hx hb dL_law_1253 ?_
  refine n_sld (k := i + 4) hx hb hXs hbl hLn hL (na_add (b := 4) rfl rfl) (by omega) dL_law_1254 ?_
  refine lv_aload_n hx hb dL_law_1255 rfl (lv_at hl 0 rfl) ?_
  refine lv_iload_n hx hb dL_law_1256 rfl (lv_at hl 3 rfl) ?_
  refine lv_iconst (v := 5) hx hb dL_law_1257 (by decide) ?_
  refine lv_iadd hx hb dL_law_1258 ?_
  refine n_sld (k := i + 5) hx hb hXs hbl hLn hL (na_add (b := 5) rfl rfl) (by omega) dL_law_1259 ?_
  refine L_M (va_Run.mono (k_V (As := [.int (xq (i + 1)), .int (xq (i + 2)), .int (xq (i + 3)), .int (xq (i + 4)), .int (xq (i + 5))]) (rest := [.int (aW (fun _ => xq (i + 5)) (a_copy (shC x) (xq (i + 1)) (xq (i + 2)) (xq (i + 3)) (xq (i + 4)) (xq (i + 5))))]) F (k_X13_copy y hmk (xq (i + 1)) (xq (i + 2)) (xq (i + 3)) (xq (i + 4)) (xq (i + 5))) (cwV 5 hts (lw_V q1593 q1594 q1595 q107 q1596) rfl rfl rfl (by decide +kernel) ⟨Nat.le_of_ble_eq_true rfl, Nat.le_of_ble_eq_true rfl⟩) hL.2.1 hK (hw.recv hL.2.1 hK mf_main rfl) rfl hl.1 rfl (Nat.le_of_ble_eq_true rfl) dL_law_1260 ⟨show cells ≤ 814468 by omega, show slots ≤ 6652701 by omega⟩) jQ_M) hL (fun y2 H1 locs1 hP2 hL => ?_)
  show W p l e room_1 s m #[Value.ref b] below meth c H1 locs1 cells slots Q (F0 m 1263 ls [.int (aW (fun _ => xq (i + 5)) (a_copy (shMq y) (xq (i + 1)) (xq (i + 2)) (xq (i + 3)) (xq (i + 4)) (xq (i + 5)))), .int (aW (fun _ => xq (i + 5)) (a_copy (shC x) (xq (i + 1)) (xq (i + 2)) (xq (i + 3)) (xq (i + 4)) (xq (i + 5))))])
  have eq : (aW (fun _ => xq (i + 5)) (a_copy (shC x) (xq (i + 1)) (xq (i + 2)) (xq (i + 3)) (xq (i + 4)) (xq (i + 5))) : Int32) = aW (fun _ => xq (i + 5)) (a_copy (shMq y) (xq (i + 1)) (xq (i + 2)) (xq (i + 3)) (xq (i + 4)) (xq (i + 5))) := by rw [copy_c hR]
  refine lv_icmp_eq (tgt := 1399) hx hb dL_law_1263 (by decide) (fun _ => ?_) (fun h => absurd eq h)
  refine W.widen (k := cells + 1) (n := slots + 40) (Nat.le_add_right _ _) (Nat.le_add_right _ _) ?_
  have hS2 : Sim (n + 1) (aCP x (a_copy (shC x) (xq (i + 1)) (xq (i + 2)) (xq (i + 3)) (xq (i + 4)) (xq (i + 5)))) (aMP y (a_copy (shMq y) (xq (i + 1)) (xq (i + 2)) (xq (i + 3)) (xq (i + 4)) (xq (i + 5)))) := Sim_copy hs _ _ _ _ _
  exact kk x2 y2 H1 locs1 (hS2.j hP hP2) hL
set_option maxHeartbeats 400000 in
theorem lc_33 {p : Program} {l : Launch} {e : Env} {s : State} {m : MethodId} {below : List Frame} {meth : Method} {c : Code} {b Ln : Nat} {xq : Nat → Int32} {D : va_G} {σ : Nat × Nat × Value} {z : Value × Value} {L LM : Nat → Nat} {x : cst} {y : mst} {n i cells slots : Nat} {H : Heap} {locs : List Loc} {ls : Array Slot} {Q : State → Prop} (G : LG p s m meth c b Ln xq D σ z) (hs : Sim n x y) (hn : n ≤ 63) (hL : LW D L LM s x y H locs) (hl : lv_has ls 4 [(0, .ref b), (1, .ref (L 44)), (2, .ref (LM 0)), (3, .int (nI i))]) (hi : i + 6 ≤ Ln) (hcs : cells ≤ 1000 ∧ slots ≤ 100000) (kk : ∀ (x' : cst) (y' : mst) (H1 : Heap) (locs1 : List Loc), Sim (n + 1) x' y' → LW D L LM s x' y' H1 locs1 → W p l e room_1 s m #[Value.ref b] below meth c H1 locs1 (cells + 1) (slots + 40) Q (F0 m 1399 ls [])) : W p l e room_1 s m #[Value.ref b] below meth c H locs cells slots Q (F0 m 1268 ls []) := by
  obtain ⟨⟨hx, hb, hr, hml, hown, hts0, hXs, hbl, hlocks, hgv⟩, hK, hSS, hσ, hX, hLn⟩ := G
  have hts : ∀ w ∈ lw_all, w.before #[Value.ref b] s = true := fun w h => hts0 w (lw_all_tbl h)
  have F : CallFix p m c code 4 s #[Value.ref b] lw_all R_law := ⟨hx, hb, hml, hown, hts⟩
  have e0 := hs.1.1
  have hO := hs.1.2.1
  have hd := hs.1.2.d (by omega)
  have hg := hs.1.2.2.1
  have hOM : wOk (y.1 0) := by rw [← e0]; exact hO
  have hdM : isN (y.1 0 1 2) 10000 := by rw [← e0]; exact hd
  have hgM : y.1 0 1 1 = 0 := by rw [← e0]; exact hg
  obtain ⟨t, ht, e1, e2⟩ := hs.2.2.1
  obtain ⟨hsh, hmk, hR⟩ := hs.2.2.2.2.2
  refine lv_aload_n hx hb dL_law_1268 rfl (lv_at hl 1 rfl) ?_
  refine lv_aload_n hx hb dL_law_1269 rfl (lv_at hl 0 rfl) ?_
  refine lv_iload_n hx hb dL_law_1270 rfl (lv_at hl 3 rfl) ?_
  refine lv_iconst (v := 1) hx hb dL_law_1271 (by decide) ?_
  refine lv_iadd hx hb dL_law_1272 ?_
  refine n_sld (k := i + 1) hx hb hXs hbl hLn hL (na_add (b := 1) rfl rfl) (by omega) dL_law_1273 ?_
  refine L_C (va_Run.mono (k_VW (n := 1) (As := [.int (xq (i + 1))]) (rest := []) F (k_X0_load x hsh (xq (i + 1))) ⟨rfl, rfl⟩ ⟨Nat.le_of_ble_eq_true rfl, Nat.le_of_ble_eq_true rfl⟩ q1122 q1123 q1124 q91 q1125 (by decide +kernel) hL.1 hK (hw.recv hL.1 hK cf_main rfl) rfl hl.1 rfl (Nat.le_of_ble_eq_true rfl) dL_law_1274 ⟨show cells ≤ 814468 by omega, show slots ≤ 6652701 by omega⟩) jQ_C) hL (fun x2 H1 locs1 hP hL => ?_)
  refine W.widen (k := cells) (n := slots) (Nat.le_refl _) (Nat.le_refl _) ?_
  show W p l e room_1 s m #[Value.ref b] below meth c H1 locs1 cells slots Q (F0 m 1277 ls [.int (aR (a_load (shC x) (x.1 0) (xq (i + 1))))])
  refine lv_aload_n hx hb dL_law_1277 rfl (lv_at hl 2 rfl) ?_
  refine lv_aload_n hx hb dL_law_1278 rfl (lv_at hl 0 rfl) ?_
  refine lv_iload_n hx hb dL_law_1279 rfl (lv_at hl 3 rfl) ?_
  refine lv_iconst (v := 1) hx hb dL_law_1280 (by decide) ?_
  refine lv_iadd hx hb dL_law_1281 ?_
  refine n_sld (k := i + 1) hx hb hXs hbl hLn hL (na_add (b := 1) rfl rfl) (by omega) dL_law_1282 ?_
  refine L_M (va_Run.mono (k_V (As := [.int (xq (i + 1))]) (rest := [.int (aR (a_load (shC x) (x.1 0) (xq (i + 1))))]) F (k_X13_load y hmk (xq (i + 1))) (cwV 1 hts (lw_V q1597 q1598 q1599 q107 q1600) rfl rfl rfl (by decide +kernel) ⟨Nat.le_of_ble_eq_true rfl, Nat.le_of_ble_eq_true rfl⟩) hL.2.1 hK (hw.recv hL.2.1 hK mf_main rfl) rfl hl.1 rfl (Nat.le_of_ble_eq_true rfl) dL_law_1283 ⟨show cells ≤ 814468 by omega, show slots ≤ 6652701 by omega⟩) nQ_M) hL (fun y2 H1 locs1 hP2 hL => ?_)
  show W p l e room_1 s m #[Value.ref b] below meth c H1 locs1 cells slots Q (F0 m 1286 ls [.int (aR (a_load (shMq y) (y.1 0) (xq (i + 1)))), .int (aR (a_load (shC x) (x.1 0) (xq (i + 1))))])
  have eq : (aR (a_load (shC x) (x.1 0) (xq (i + 1))) : Int32) = aR (a_load (shMq y) (y.1 0) (xq (i + 1))) := by rw [← e0, load_c hR]
  refine lv_icmp_eq (tgt := 1399) hx hb dL_law_1286 (by decide) (fun _ => ?_) (fun h => absurd eq h)
  refine W.widen (k := cells + 1) (n := slots + 40) (Nat.le_add_right _ _) (Nat.le_add_right _ _) ?_
  have hS2 : Sim (n + 1) (aC x (a_load (shC x) (x.1 0) (xq (i + 1)))) (aM y (a_load (shMq y) (y.1 0) (xq (i + 1)))) := by rw [← e0, load_c hR]; exact Sim_act hs (Nat.le_succ n) _ (WS_load (hs.1.2.mono (Nat.le_succ n)) _ _)
  exact kk x2 y2 H1 locs1 (hS2.j hP hP2) hL
set_option maxHeartbeats 400000 in
theorem lc_34 {p : Program} {l : Launch} {e : Env} {s : State} {m : MethodId} {below : List Frame} {meth : Method} {c : Code} {b Ln : Nat} {xq : Nat → Int32} {D : va_G} {σ : Nat × Nat × Value} {z : Value × Value} {L LM : Nat → Nat} {x : cst} {y : mst} {n i cells slots : Nat} {H : Heap} {locs : List Loc} {ls : Array Slot} {Q : State → Prop} (G : LG p s m meth c b Ln xq D σ z) (hs : Sim n x y) (hn : n ≤ 63) (hL : LW D L LM s x y H locs) (hl : lv_has ls 4 [(0, .ref b), (1, .ref (L 44)), (2, .ref (LM 0)), (3, .int (nI i))]) (hi : i + 6 ≤ Ln) (hcs : cells ≤ 1000 ∧ slots ≤ 100000) (kk : ∀ (x' : cst) (y' : mst) (H1 : Heap) (locs1 : List Loc), Sim (n + 1) x' y' → LW D L LM s x' y' H1 locs1 → W p l e room_1 s m #[Value.ref b] below meth c H1 locs1 (cells + 1) (slots + 40) Q (F0 m 1399 ls [])) : W p l e room_1 s m #[Value.ref b] below meth c H locs cells slots Q (F0 m 1291 ls []) := by
  obtain ⟨⟨hx, hb, hr, hml, hown, hts0, hXs, hbl, hlocks, hgv⟩, hK, hSS, hσ, hX, hLn⟩ := G
  have hts : ∀ w ∈ lw_all, w.before #[Value.ref b] s = true := fun w h => hts0 w (lw_all_tbl h)
  have F : CallFix p m c code 4 s #[Value.ref b] lw_all R_law := ⟨hx, hb, hml, hown, hts⟩
  have e0 := hs.1.1
  have hO := hs.1.2.1
  have hd := hs.1.2.d (by omega)
  have hg := hs.1.2.2.1
  have hOM : wOk (y.1 0) := by rw [← e0]; exact hO
  have hdM : isN (y.1 0 1 2) 10000 := by rw [← e0]; exact hd
  have hgM : y.1 0 1 1 = 0 := by rw [← e0]; exact hg
  obtain ⟨t, ht, e1, e2⟩ := hs.2.2.1
  obtain ⟨hsh, hmk, hR⟩ := hs.2.2.2.2.2
  refine lv_aload_n hx hb dL_law_1291 rfl (lv_at hl 1 rfl) ?_
  refine lv_aload_n hx hb dL_law_1292 rfl (lv_at hl 0 rfl) ?_
  refine lv_iload_n hx hb dL_law_1293 rfl (lv_at hl 3 rfl) ?_
  refine lv_iconst (v := 1) hx hb dL_law_1294 (by decide) ?_
  refine lv_iadd hx hb dL_law_1295 ?_
  refine n_sld (k := i + 1) hx hb hXs hbl hLn hL (na_add (b := 1) rfl rfl) (by omega) dL_law_1296 ?_
  refine L_C (va_Run.mono (k_VW (n := 1) (As := [.int (xq (i + 1))]) (rest := []) F (k_X0_judge x hO hsh (xq (i + 1))) ⟨rfl, rfl⟩ ⟨Nat.le_of_ble_eq_true rfl, Nat.le_of_ble_eq_true rfl⟩ q1130 q1131 q1132 q91 q1133 (by decide +kernel) hL.1 hK (hw.recv hL.1 hK cf_main rfl) rfl hl.1 rfl (Nat.le_of_ble_eq_true rfl) dL_law_1297 ⟨show cells ≤ 814468 by omega, show slots ≤ 6652701 by omega⟩) jQ_C) hL (fun x2 H1 locs1 hP hL => ?_)
  refine W.widen (k := cells) (n := slots) (Nat.le_refl _) (Nat.le_refl _) ?_
  show W p l e room_1 s m #[Value.ref b] below meth c H1 locs1 cells slots Q (F0 m 1300 ls [.int (aR (a_judge (shC x) (x.1 0) (xq (i + 1))))])
  refine lv_aload_n hx hb dL_law_1300 rfl (lv_at hl 2 rfl) ?_
  refine lv_aload_n hx hb dL_law_1301 rfl (lv_at hl 0 rfl) ?_
  refine lv_iload_n hx hb dL_law_1302 rfl (lv_at hl 3 rfl) ?_
  refine lv_iconst (v := 1) hx hb dL_law_1303 (by decide) ?_
  refine lv_iadd hx hb dL_law_1304 ?_
  refine n_sld (k := i + 1) hx hb hXs hbl hLn hL (na_add (b := 1) rfl rfl) (by omega) dL_law_1305 ?_
  refine L_M (va_Run.mono (k_V (As := [.int (xq (i + 1))]) (rest := [.int (aR (a_judge (shC x) (x.1 0) (xq (i + 1))))]) F (k_X13_judge y hOM hmk (xq (i + 1))) (cwV 1 hts (lw_V q1601 q1602 q1603 q107 q1604) rfl rfl rfl (by decide +kernel) ⟨Nat.le_of_ble_eq_true rfl, Nat.le_of_ble_eq_true rfl⟩) hL.2.1 hK (hw.recv hL.2.1 hK mf_main rfl) rfl hl.1 rfl (Nat.le_of_ble_eq_true rfl) dL_law_1306 ⟨show cells ≤ 814468 by omega, show slots ≤ 6652701 by omega⟩) nQ_M) hL (fun y2 H1 locs1 hP2 hL => ?_)
  show W p l e room_1 s m #[Value.ref b] below meth c H1 locs1 cells slots Q (F0 m 1309 ls [.int (aR (a_judge (shMq y) (y.1 0) (xq (i + 1)))), .int (aR (a_judge (shC x) (x.1 0) (xq (i + 1))))])
  have eq : (aR (a_judge (shC x) (x.1 0) (xq (i + 1))) : Int32) = aR (a_judge (shMq y) (y.1 0) (xq (i + 1))) := by rw [← e0, judge_c hR]
  refine lv_icmp_eq (tgt := 1399) hx hb dL_law_1309 (by decide) (fun _ => ?_) (fun h => absurd eq h)
  refine W.widen (k := cells + 1) (n := slots + 40) (Nat.le_add_right _ _) (Nat.le_add_right _ _) ?_
  have hS2 : Sim (n + 1) (aC x (a_judge (shC x) (x.1 0) (xq (i + 1)))) (aM y (a_judge (shMq y) (y.1 0) (xq (i + 1)))) := by rw [← e0, judge_c hR]; exact Sim_rd hs _ (rd_judge _ _ _)
  exact kk x2 y2 H1 locs1 (hS2.j hP hP2) hL
set_option maxHeartbeats 400000 in
theorem lc_35 {p : Program} {l : Launch} {e : Env} {s : State} {m : MethodId} {below : List Frame} {meth : Method} {c : Code} {b Ln : Nat} {xq : Nat → Int32} {D : va_G} {σ : Nat × Nat × Value} {z : Value × Value} {L LM : Nat → Nat} {x : cst} {y : mst} {n i cells slots : Nat} {H : Heap} {locs : List Loc} {ls : Array Slot} {Q : State → Prop} (G : LG p s m meth c b Ln xq D σ z) (hs : Sim n x y) (hn : n ≤ 63) (hL : LW D L LM s x y H locs) (hl : lv_has ls 4 [(0, .ref b), (1, .ref (L 44)), (2, .ref (LM 0)), (3, .int (nI i))]) (hi : i + 6 ≤ Ln) (hcs : cells ≤ 1000 ∧ slots ≤ 100000) (kk : ∀ (x' : cst) (y' : mst) (H1 : Heap) (locs1 : List Loc), Sim (n + 1) x' y' → LW D L LM s x' y' H1 locs1 → W p l e room_1 s m #[Value.ref b] below meth c H1 locs1 (cells + 1) (slots + 40) Q (F0 m 1399 ls [])) : W p l e room_1 s m #[Value.ref b] below meth c H locs cells slots Q (F0 m 1314 ls []) := by
  obtain ⟨⟨hx, hb, hr, hml, hown, hts0, hXs, hbl, hlocks, hgv⟩, hK, hSS, hσ, hX, hLn⟩ := G
  have hts : ∀ w ∈ lw_all, w.before #[Value.ref b] s = true := fun w h => hts0 w (lw_all_tbl h)
  have F : CallFix p m c code 4 s #[Value.ref b] lw_all R_law := ⟨hx, hb, hml, hown, hts⟩
  have e0 := hs.1.1
  have hO := hs.1.2.1
  have hd := hs.1.2.d (by omega)
  have hg := hs.1.2.2.1
  have hOM : wOk (y.1 0) := by rw [← e0]; exact hO
  have hdM : isN (y.1 0 1 2) 10000 := by rw [← e0]; exact hd
  have hgM : y.1 0 1 1 = 0 := by rw [← e0]; exact hg
  obtain ⟨t, ht, e1, e2⟩ := hs.2.2.1
  obtain ⟨hsh, hmk, hR⟩ := hs.2.2.2.2.2
  refine lv_aload_n hx hb dL_law_1314 rfl (lv_at hl 1 rfl) ?_
  refine L_C (va_Run.mono (k_V (As := []) (rest := []) F (k_X0_image x) (cwV 0 hts (lw_V q1134 q1135 q1136 q91 q1137) rfl rfl rfl (by decide +kernel) ⟨Nat.le_of_ble_eq_true rfl, Nat.le_of_ble_eq_true rfl⟩) hL.1 hK (hw.recv hL.1 hK cf_main rfl) rfl hl.1 rfl (Nat.le_of_ble_eq_true rfl) dL_law_1315 ⟨show cells ≤ 814468 by omega, show slots ≤ 6652701 by omega⟩) nQ_C) hL (fun x2 H1 locs1 hP hL => ?_)
  refine W.widen (k := cells) (n := slots) (Nat.le_refl _) (Nat.le_refl _) ?_
  show W p l e room_1 s m #[Value.ref b] below meth c H1 locs1 cells slots Q (F0 m 1318 ls [.int (1)])
  refine lv_aload_n hx hb dL_law_1318 rfl (lv_at hl 2 rfl) ?_
  refine L_M (va_Run.mono (k_V (As := []) (rest := [.int (1)]) F (k_X13_image y) (cwV 0 hts (lw_V q1605 q1606 q1607 q107 q1608) rfl rfl rfl (by decide +kernel) ⟨Nat.le_of_ble_eq_true rfl, Nat.le_of_ble_eq_true rfl⟩) hL.2.1 hK (hw.recv hL.2.1 hK mf_main rfl) rfl hl.1 rfl (Nat.le_of_ble_eq_true rfl) dL_law_1319 ⟨show cells ≤ 814468 by omega, show slots ≤ 6652701 by omega⟩) nQ_M) hL (fun y2 H1 locs1 hP2 hL => ?_)
  show W p l e room_1 s m #[Value.ref b] below meth c H1 locs1 cells slots Q (F0 m 1322 ls [.int (1), .int (1)])
  have eq : (1 : Int32) = 1 := rfl
  refine lv_icmp_eq (tgt := 1399) hx hb dL_law_1322 (by decide) (fun _ => ?_) (fun h => absurd eq h)
  refine W.widen (k := cells + 1) (n := slots + 40) (Nat.le_add_right _ _) (Nat.le_add_right _ _) ?_
  have hS2 : Sim (n + 1) (xr (xs x 1 (x.1 0)) 0 1 1) (yr (ys y 3 (y.1 0)) 0 0 1) := Sim_image hs
  exact kk x2 y2 H1 locs1 (hS2.j hP hP2) hL
set_option maxHeartbeats 400000 in
theorem lc_36 {p : Program} {l : Launch} {e : Env} {s : State} {m : MethodId} {below : List Frame} {meth : Method} {c : Code} {b Ln : Nat} {xq : Nat → Int32} {D : va_G} {σ : Nat × Nat × Value} {z : Value × Value} {L LM : Nat → Nat} {x : cst} {y : mst} {n i cells slots : Nat} {H : Heap} {locs : List Loc} {ls : Array Slot} {Q : State → Prop} (G : LG p s m meth c b Ln xq D σ z) (hs : Sim n x y) (hn : n ≤ 63) (hL : LW D L LM s x y H locs) (hl : lv_has ls 4 [(0, .ref b), (1, .ref (L 44)), (2, .ref (LM 0)), (3, .int (nI i))]) (hi : i + 6 ≤ Ln) (hcs : cells ≤ 1000 ∧ slots ≤ 100000) (kk : ∀ (x' : cst) (y' : mst) (H1 : Heap) (locs1 : List Loc), Sim (n + 1) x' y' → LW D L LM s x' y' H1 locs1 → W p l e room_1 s m #[Value.ref b] below meth c H1 locs1 (cells + 1) (slots + 40) Q (F0 m 1399 ls [])) : W p l e room_1 s m #[Value.ref b] below meth c H locs cells slots Q (F0 m 1327 ls []) := by
  obtain ⟨⟨hx, hb, hr, hml, hown, hts0, hXs, hbl, hlocks, hgv⟩, hK, hSS, hσ, hX, hLn⟩ := G
  have hts : ∀ w ∈ lw_all, w.before #[Value.ref b] s = true := fun w h => hts0 w (lw_all_tbl h)
  have F : CallFix p m c code 4 s #[Value.ref b] lw_all R_law := ⟨hx, hb, hml, hown, hts⟩
  have e0 := hs.1.1
  have hO := hs.1.2.1
  have hd := hs.1.2.d (by omega)
  have hg := hs.1.2.2.1
  have hOM : wOk (y.1 0) := by rw [← e0]; exact hO
  have hdM : isN (y.1 0 1 2) 10000 := by rw [← e0]; exact hd
  have hgM : y.1 0 1 1 = 0 := by rw [← e0]; exact hg
  obtain ⟨t, ht, e1, e2⟩ := hs.2.2.1
  obtain ⟨hsh, hmk, hR⟩ := hs.2.2.2.2.2
  refine lv_aload_n hx hb dL_law_1327 rfl (lv_at hl 1 rfl) ?_
  refine L_C (va_Run.mono (k_V (As := []) (rest := []) F (k_X0_undo x) (cwV 0 hts (lw_V q1138 q1139 q1140 q91 q1141) rfl rfl rfl (by decide +kernel) ⟨Nat.le_of_ble_eq_true rfl, Nat.le_of_ble_eq_true rfl⟩) hL.1 hK (hw.recv hL.1 hK cf_main rfl) rfl hl.1 rfl (Nat.le_of_ble_eq_true rfl) dL_law_1328 ⟨show cells ≤ 814468 by omega, show slots ≤ 6652701 by omega⟩) nQ_C) hL (fun x2 H1 locs1 hP hL => ?_)
  refine W.widen (k := cells) (n := slots) (Nat.le_refl _) (Nat.le_refl _) ?_
  show W p l e room_1 s m #[Value.ref b] below meth c H1 locs1 cells slots Q (F0 m 1331 ls [.int (if x.2.1 0 1 = 0 then -1000001 - nI 3 else x.1 1 1 2)])
  refine lv_aload_n hx hb dL_law_1331 rfl (lv_at hl 2 rfl) ?_
  refine L_M (va_Run.mono (k_V (As := []) (rest := [.int (if x.2.1 0 1 = 0 then -1000001 - nI 3 else x.1 1 1 2)]) F (k_X13_undo y) (cwV 0 hts (lw_V q1609 q1610 q1611 q107 q1612) rfl rfl rfl (by decide +kernel) ⟨Nat.le_of_ble_eq_true rfl, Nat.le_of_ble_eq_true rfl⟩) hL.2.1 hK (hw.recv hL.2.1 hK mf_main rfl) rfl hl.1 rfl (Nat.le_of_ble_eq_true rfl) dL_law_1332 ⟨show cells ≤ 814468 by omega, show slots ≤ 6652701 by omega⟩) nQ_M) hL (fun y2 H1 locs1 hP2 hL => ?_)
  show W p l e room_1 s m #[Value.ref b] below meth c H1 locs1 cells slots Q (F0 m 1335 ls [.int (if y.2.1 0 0 = 0 then -1000001 - nI 3 else y.1 3 1 2), .int (if x.2.1 0 1 = 0 then -1000001 - nI 3 else x.1 1 1 2)])
  have eq : (if x.2.1 0 1 = 0 then -1000001 - nI 3 else x.1 1 1 2 : Int32) = if y.2.1 0 0 = 0 then -1000001 - nI 3 else y.1 3 1 2 := (Sim_undo hs).2
  refine lv_icmp_eq (tgt := 1399) hx hb dL_law_1335 (by decide) (fun _ => ?_) (fun h => absurd eq h)
  refine W.widen (k := cells + 1) (n := slots + 40) (Nat.le_add_right _ _) (Nat.le_add_right _ _) ?_
  have hS2 : Sim (n + 1) (if x.2.1 0 1 = 0 then fnd x 3 else xs x 0 (x.1 1)) (if y.2.1 0 0 = 0 then fndM y 3 else ys y 0 (u2 (y.1 3) 1 1 (y.1 0 1 1))) := (Sim_undo hs).1
  exact kk x2 y2 H1 locs1 (hS2.j hP hP2) hL
set_option maxHeartbeats 400000 in
theorem lc_37 {p : Program} {l : Launch} {e : Env} {s : State} {m : MethodId} {below : List Frame} {meth : Method} {c : Code} {b Ln : Nat} {xq : Nat → Int32} {D : va_G} {σ : Nat × Nat × Value} {z : Value × Value} {L LM : Nat → Nat} {x : cst} {y : mst} {n i cells slots : Nat} {H : Heap} {locs : List Loc} {ls : Array Slot} {Q : State → Prop} (G : LG p s m meth c b Ln xq D σ z) (hs : Sim n x y) (hn : n ≤ 63) (hL : LW D L LM s x y H locs) (hl : lv_has ls 4 [(0, .ref b), (1, .ref (L 44)), (2, .ref (LM 0)), (3, .int (nI i))]) (hi : i + 6 ≤ Ln) (hcs : cells ≤ 1000 ∧ slots ≤ 100000) (kk : ∀ (x' : cst) (y' : mst) (H1 : Heap) (locs1 : List Loc), Sim (n + 1) x' y' → LW D L LM s x' y' H1 locs1 → W p l e room_1 s m #[Value.ref b] below meth c H1 locs1 (cells + 1) (slots + 40) Q (F0 m 1399 ls [])) : W p l e room_1 s m #[Value.ref b] below meth c H locs cells slots Q (F0 m 1340 ls []) := by
  obtain ⟨⟨hx, hb, hr, hml, hown, hts0, hXs, hbl, hlocks, hgv⟩, hK, hSS, hσ, hX, hLn⟩ := G
  have hts : ∀ w ∈ lw_all, w.before #[Value.ref b] s = true := fun w h => hts0 w (lw_all_tbl h)
  have F : CallFix p m c code 4 s #[Value.ref b] lw_all R_law := ⟨hx, hb, hml, hown, hts⟩
  have e0 := hs.1.1
  have hO := hs.1.2.1
  have hd := hs.1.2.d (by omega)
  have hg := hs.1.2.2.1
  have hOM : wOk (y.1 0) := by rw [← e0]; exact hO
  have hdM : isN (y.1 0 1 2) 10000 := by rw [← e0]; exact hd
  have hgM : y.1 0 1 1 = 0 := by rw [← e0]; exact hg
  obtain ⟨t, ht, e1, e2⟩ := hs.2.2.1
  obtain ⟨hsh, hmk, hR⟩ := hs.2.2.2.2.2
  refine lv_aload_n hx hb dL_law_1340 rfl (lv_at hl 1 rfl) ?_
  refine L_C (va_Run.mono (k_V (As := []) (rest := []) F (k_X0_tear x) (cwV 0 hts (lw_V q1142 q1143 q1144 q91 q1145) rfl rfl rfl (by decide +kernel) ⟨Nat.le_of_ble_eq_true rfl, Nat.le_of_ble_eq_true rfl⟩) hL.1 hK (hw.recv hL.1 hK cf_main rfl) rfl hl.1 rfl (Nat.le_of_ble_eq_true rfl) dL_law_1341 ⟨show cells ≤ 814468 by omega, show slots ≤ 6652701 by omega⟩) nQ_C) hL (fun x2 H1 locs1 hP hL => ?_)
  refine W.widen (k := cells) (n := slots) (Nat.le_refl _) (Nat.le_refl _) ?_
  show W p l e room_1 s m #[Value.ref b] below meth c H1 locs1 cells slots Q (F0 m 1344 ls [.int (if x.2.1 0 1 = 0 then 0 else 1)])
  refine lv_aload_n hx hb dL_law_1344 rfl (lv_at hl 2 rfl) ?_
  refine L_M (va_Run.mono (k_V (As := []) (rest := [.int (if x.2.1 0 1 = 0 then 0 else 1)]) F (k_X13_tear y) (cwV 0 hts (lw_V q1613 q1614 q1615 q107 q1616) rfl rfl rfl (by decide +kernel) ⟨Nat.le_of_ble_eq_true rfl, Nat.le_of_ble_eq_true rfl⟩) hL.2.1 hK (hw.recv hL.2.1 hK mf_main rfl) rfl hl.1 rfl (Nat.le_of_ble_eq_true rfl) dL_law_1345 ⟨show cells ≤ 814468 by omega, show slots ≤ 6652701 by omega⟩) nQ_M) hL (fun y2 H1 locs1 hP2 hL => ?_)
  show W p l e room_1 s m #[Value.ref b] below meth c H1 locs1 cells slots Q (F0 m 1348 ls [.int (if y.2.1 0 0 = 0 then 0 else 1), .int (if x.2.1 0 1 = 0 then 0 else 1)])
  have eq : (if x.2.1 0 1 = 0 then 0 else 1 : Int32) = if y.2.1 0 0 = 0 then 0 else 1 := by rw [hs.2.1.1]
  refine lv_icmp_eq (tgt := 1399) hx hb dL_law_1348 (by decide) (fun _ => ?_) (fun h => absurd eq h)
  refine W.widen (k := cells + 1) (n := slots + 40) (Nat.le_add_right _ _) (Nat.le_add_right _ _) ?_
  have hS2 : Sim (n + 1) (xr x 0 1 0) (yr y 0 0 0) := Sim_tear hs
  exact kk x2 y2 H1 locs1 (hS2.j hP hP2) hL
set_option maxHeartbeats 400000 in
theorem lc_38 {p : Program} {l : Launch} {e : Env} {s : State} {m : MethodId} {below : List Frame} {meth : Method} {c : Code} {b Ln : Nat} {xq : Nat → Int32} {D : va_G} {σ : Nat × Nat × Value} {z : Value × Value} {L LM : Nat → Nat} {x : cst} {y : mst} {n i cells slots : Nat} {H : Heap} {locs : List Loc} {ls : Array Slot} {Q : State → Prop} (G : LG p s m meth c b Ln xq D σ z) (hs : Sim n x y) (hn : n ≤ 63) (hL : LW D L LM s x y H locs) (hl : lv_has ls 4 [(0, .ref b), (1, .ref (L 44)), (2, .ref (LM 0)), (3, .int (nI i))]) (hi : i + 6 ≤ Ln) (hcs : cells ≤ 1000 ∧ slots ≤ 100000) (kk : ∀ (x' : cst) (y' : mst) (H1 : Heap) (locs1 : List Loc), Sim (n + 1) x' y' → LW D L LM s x' y' H1 locs1 → W p l e room_1 s m #[Value.ref b] below meth c H1 locs1 (cells + 1) (slots + 40) Q (F0 m 1399 ls [])) : W p l e room_1 s m #[Value.ref b] below meth c H locs cells slots Q (F0 m 1353 ls []) := by
  obtain ⟨⟨hx, hb, hr, hml, hown, hts0, hXs, hbl, hlocks, hgv⟩, hK, hSS, hσ, hX, hLn⟩ := G
  have hts : ∀ w ∈ lw_all, w.before #[Value.ref b] s = true := fun w h => hts0 w (lw_all_tbl h)
  have F : CallFix p m c code 4 s #[Value.ref b] lw_all R_law := ⟨hx, hb, hml, hown, hts⟩
  have e0 := hs.1.1
  have hO := hs.1.2.1
  have hd := hs.1.2.d (by omega)
  have hg := hs.1.2.2.1
  have hOM : wOk (y.1 0) := by rw [← e0]; exact hO
  have hdM : isN (y.1 0 1 2) 10000 := by rw [← e0]; exact hd
  have hgM : y.1 0 1 1 = 0 := by rw [← e0]; exact hg
  obtain ⟨t, ht, e1, e2⟩ := hs.2.2.1
  obtain ⟨hsh, hmk, hR⟩ := hs.2.2.2.2.2
  refine lv_aload_n hx hb dL_law_1353 rfl (lv_at hl 1 rfl) ?_
  refine lv_aload_n hx hb dL_law_1354 rfl (lv_at hl 0 rfl) ?_
  refine lv_iload_n hx hb dL_law_1355 rfl (lv_at hl 3 rfl) ?_
  refine lv_iconst (v := 1) hx hb dL_law_1356 (by decide) ?_
  refine lv_iadd hx hb dL_law_1357 ?_
  refine n_sld (k := i + 1) hx hb hXs hbl hLn hL (na_add (b := 1) rfl rfl) (by omega) dL_law_1358 ?_
  refine L_C (va_Run.mono (k_V (As := [.int (xq (i + 1))]) (rest := []) F (k_X0_count x hO (xq (i + 1))) (cwV 1 hts (lw_V q1146 q1147 q1148 q91 q1149) rfl rfl rfl (by decide +kernel) ⟨Nat.le_of_ble_eq_true rfl, Nat.le_of_ble_eq_true rfl⟩) hL.1 hK (hw.recv hL.1 hK cf_main rfl) rfl hl.1 rfl (Nat.le_of_ble_eq_true rfl) dL_law_1359 ⟨show cells ≤ 814468 by omega, show slots ≤ 6652701 by omega⟩) nQ_C) hL (fun x2 H1 locs1 hP hL => ?_)
  refine W.widen (k := cells) (n := slots) (Nat.le_refl _) (Nat.le_refl _) ?_
  show W p l e room_1 s m #[Value.ref b] below meth c H1 locs1 cells slots Q (F0 m 1362 ls [.int (aR (a_count (x.1 0) (x.2.1 0 0) (xq (i + 1))))])
  refine lv_aload_n hx hb dL_law_1362 rfl (lv_at hl 2 rfl) ?_
  refine lv_aload_n hx hb dL_law_1363 rfl (lv_at hl 0 rfl) ?_
  refine lv_iload_n hx hb dL_law_1364 rfl (lv_at hl 3 rfl) ?_
  refine lv_iconst (v := 1) hx hb dL_law_1365 (by decide) ?_
  refine lv_iadd hx hb dL_law_1366 ?_
  refine n_sld (k := i + 1) hx hb hXs hbl hLn hL (na_add (b := 1) rfl rfl) (by omega) dL_law_1367 ?_
  refine L_M (va_Run.mono (k_V (As := [.int (xq (i + 1))]) (rest := [.int (aR (a_count (x.1 0) (x.2.1 0 0) (xq (i + 1))))]) F (k_X13_count y hOM (xq (i + 1))) (cwV 1 hts (lw_V q1617 q1618 q1619 q107 q1620) rfl rfl rfl (by decide +kernel) ⟨Nat.le_of_ble_eq_true rfl, Nat.le_of_ble_eq_true rfl⟩) hL.2.1 hK (hw.recv hL.2.1 hK mf_main rfl) rfl hl.1 rfl (Nat.le_of_ble_eq_true rfl) dL_law_1368 ⟨show cells ≤ 814468 by omega, show slots ≤ 6652701 by omega⟩) nQ_M) hL (fun y2 H1 locs1 hP2 hL => ?_)
  show W p l e room_1 s m #[Value.ref b] below meth c H1 locs1 cells slots Q (F0 m 1371 ls [.int (aR (a_count (y.1 0) (y.2.1 0 1) (xq (i + 1)))), .int (aR (a_count (x.1 0) (x.2.1 0 0) (xq (i + 1))))])
  have eq : (aR (a_count (x.1 0) (x.2.1 0 0) (xq (i + 1))) : Int32) = aR (a_count (y.1 0) (y.2.1 0 1) (xq (i + 1))) := by rw [← e0, e1, e2]
  refine lv_icmp_eq (tgt := 1399) hx hb dL_law_1371 (by decide) (fun _ => ?_) (fun h => absurd eq h)
  refine W.widen (k := cells + 1) (n := slots + 40) (Nat.le_add_right _ _) (Nat.le_add_right _ _) ?_
  have hS2 : Sim (n + 1) (aC x (a_count (x.1 0) (x.2.1 0 0) (xq (i + 1)))) (aM y (a_count (y.1 0) (y.2.1 0 1) (xq (i + 1)))) := by rw [← e0, e2, ← e1]; exact Sim_rd hs _ (rd_count _ _ _)
  exact kk x2 y2 H1 locs1 (hS2.j hP hP2) hL
set_option maxHeartbeats 400000 in
theorem lc_39 {p : Program} {l : Launch} {e : Env} {s : State} {m : MethodId} {below : List Frame} {meth : Method} {c : Code} {b Ln : Nat} {xq : Nat → Int32} {D : va_G} {σ : Nat × Nat × Value} {z : Value × Value} {L LM : Nat → Nat} {x : cst} {y : mst} {n i cells slots : Nat} {H : Heap} {locs : List Loc} {ls : Array Slot} {Q : State → Prop} (G : LG p s m meth c b Ln xq D σ z) (hs : Sim n x y) (hn : n ≤ 63) (hL : LW D L LM s x y H locs) (hl : lv_has ls 4 [(0, .ref b), (1, .ref (L 44)), (2, .ref (LM 0)), (3, .int (nI i))]) (hi : i + 6 ≤ Ln) (hcs : cells ≤ 1000 ∧ slots ≤ 100000) (kk : ∀ (x' : cst) (y' : mst) (H1 : Heap) (locs1 : List Loc), Sim (n + 1) x' y' → LW D L LM s x' y' H1 locs1 → W p l e room_1 s m #[Value.ref b] below meth c H1 locs1 (cells + 1) (slots + 40) Q (F0 m 1399 ls [])) : W p l e room_1 s m #[Value.ref b] below meth c H locs cells slots Q (F0 m 1376 ls []) := by
  obtain ⟨⟨hx, hb, hr, hml, hown, hts0, hXs, hbl, hlocks, hgv⟩, hK, hSS, hσ, hX, hLn⟩ := G
  have hts : ∀ w ∈ lw_all, w.before #[Value.ref b] s = true := fun w h => hts0 w (lw_all_tbl h)
  have F : CallFix p m c code 4 s #[Value.ref b] lw_all R_law := ⟨hx, hb, hml, hown, hts⟩
  have e0 := hs.1.1
  have hO := hs.1.2.1
  have hd := hs.1.2.d (by omega)
  have hg := hs.1.2.2.1
  have hOM : wOk (y.1 0) := by rw [← e0]; exact hO
  have hdM : isN (y.1 0 1 2) 10000 := by rw [← e0]; exact hd
  have hgM : y.1 0 1 1 = 0 := by rw [← e0]; exact hg
  obtain ⟨t, ht, e1, e2⟩ := hs.2.2.1
  obtain ⟨hsh, hmk, hR⟩ := hs.2.2.2.2.2
  refine lv_aload_n hx hb dL_law_1376 rfl (lv_at hl 1 rfl) ?_
  refine lv_aload_n hx hb dL_law_1377 rfl (lv_at hl 0 rfl) ?_
  refine lv_iload_n hx hb dL_law_1378 rfl (lv_at hl 3 rfl) ?_
  refine lv_iconst (v := 1) hx hb dL_law_1379 (by decide) ?_
  refine lv_iadd hx hb dL_law_1380 ?_
  refine n_sld (k := i + 1) hx hb hXs hbl hLn hL (na_add (b := 1) rfl rfl) (by omega) dL_law_1381 ?_
  refine L_C (va_Run.mono (k_V (As := [.int (xq (i + 1))]) (rest := []) F (k_X0_status x (xq (i + 1))) (cwV 1 hts (lw_V q1154 q1155 q1156 q91 q1157) rfl rfl rfl (by decide +kernel) ⟨Nat.le_of_ble_eq_true rfl, Nat.le_of_ble_eq_true rfl⟩) hL.1 hK (hw.recv hL.1 hK cf_main rfl) rfl hl.1 rfl (Nat.le_of_ble_eq_true rfl) dL_law_1382 ⟨show cells ≤ 814468 by omega, show slots ≤ 6652701 by omega⟩) nQ_C) hL (fun x2 H1 locs1 hP hL => ?_)
  refine W.widen (k := cells) (n := slots) (Nat.le_refl _) (Nat.le_refl _) ?_
  show W p l e room_1 s m #[Value.ref b] below meth c H1 locs1 cells slots Q (F0 m 1385 ls [.int (aR (a_status (x.2.1 3) (x.1 0) (xq (i + 1))))])
  refine lv_aload_n hx hb dL_law_1385 rfl (lv_at hl 2 rfl) ?_
  refine lv_aload_n hx hb dL_law_1386 rfl (lv_at hl 0 rfl) ?_
  refine lv_iload_n hx hb dL_law_1387 rfl (lv_at hl 3 rfl) ?_
  refine lv_iconst (v := 1) hx hb dL_law_1388 (by decide) ?_
  refine lv_iadd hx hb dL_law_1389 ?_
  refine n_sld (k := i + 1) hx hb hXs hbl hLn hL (na_add (b := 1) rfl rfl) (by omega) dL_law_1390 ?_
  refine L_M (va_Run.mono (k_V (As := [.int (xq (i + 1))]) (rest := [.int (aR (a_status (x.2.1 3) (x.1 0) (xq (i + 1))))]) F (k_X13_status y (xq (i + 1))) (cwV 1 hts (lw_V q1625 q1626 q1627 q107 q1628) rfl rfl rfl (by decide +kernel) ⟨Nat.le_of_ble_eq_true rfl, Nat.le_of_ble_eq_true rfl⟩) hL.2.1 hK (hw.recv hL.2.1 hK mf_main rfl) rfl hl.1 rfl (Nat.le_of_ble_eq_true rfl) dL_law_1391 ⟨show cells ≤ 814468 by omega, show slots ≤ 6652701 by omega⟩) nQ_M) hL (fun y2 H1 locs1 hP2 hL => ?_)
  show W p l e room_1 s m #[Value.ref b] below meth c H1 locs1 cells slots Q (F0 m 1394 ls [.int (aR (a_status (y.2.1 1) (y.1 0) (xq (i + 1)))), .int (aR (a_status (x.2.1 3) (x.1 0) (xq (i + 1))))])
  have eq : (aR (a_status (x.2.1 3) (x.1 0) (xq (i + 1))) : Int32) = aR (a_status (y.2.1 1) (y.1 0) (xq (i + 1))) := by rw [← e0, ← hs.2.2.2.2.1]
  refine lv_icmp_eq (tgt := 1399) hx hb dL_law_1394 (by decide) (fun _ => ?_) (fun h => absurd eq h)
  refine W.widen (k := cells + 1) (n := slots + 40) (Nat.le_add_right _ _) (Nat.le_add_right _ _) ?_
  have hS2 : Sim (n + 1) (aC x (a_status (x.2.1 3) (x.1 0) (xq (i + 1)))) (aM y (a_status (y.2.1 1) (y.1 0) (xq (i + 1)))) := by rw [← e0, ← hs.2.2.2.2.1]; exact Sim_rd hs _ (rd_status _ _ _)
  exact kk x2 y2 H1 locs1 (hS2.j hP hP2) hL
