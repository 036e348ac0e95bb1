/-! the law: its cases 14 to 27 -/
set_option maxHeartbeats 400000 in
theorem lc_14 {p : Program} {l : Launch} {e : Env} {s : State} {m : MethodId} {below : List Frame} {meth : Method} {c : Code} {b Ln : Nat} {xq : Nat → Int32} {D : va_G} {σ : Nat × Nat × Value} {z : Value × Value} {L LM : Nat → Nat} {x : cst} {y : mst} {n i cells slots : Nat} {H : Heap} {locs : List Loc} {ls : Array Slot} {Q : State → Prop} (G : LG p s m meth c b Ln xq D σ z) (hs : Sim n x y) (hn : n ≤ 63) (hL : LW D L LM s x y H locs) (hl : lv_has ls 4 [(0, .ref b), (1, .ref (L 44)), (2, .ref (LM 0)), (3, .int (nI i))]) (hi : i + 6 ≤ Ln) (hcs : cells ≤ 1000 ∧ slots ≤ 100000) (kk : ∀ (x' : cst) (y' : mst) (H1 : Heap) (locs1 : List Loc), Sim (n + 1) x' y' → LW D L LM s x' y' H1 locs1 → W p l e room_1 s m #[Value.ref b] below meth c H1 locs1 (cells + 1) (slots + 40) Q (F0 m 1399 ls [])) : W p l e room_1 s m #[Value.ref b] below meth c H locs cells slots Q (F0 m 640 ls []) := by
  obtain ⟨⟨hx, hb, hr, hml, hown, hts0, hXs, hbl, hlocks, hgv⟩, hK, hSS, hσ, hX, hLn⟩ := G
  have hts : ∀ w ∈ lw_all, w.before #[Value.ref b] s = true := fun w h => hts0 w (lw_all_tbl h)
  have F : CallFix p m c code 4 s #[Value.ref b] lw_all R_law := ⟨hx, hb, hml, hown, hts⟩
  have e0 := hs.1.1
  have hO := hs.1.2.1
  have hd := hs.1.2.d (by omega)
  have hg := hs.1.2.2.1
  have hOM : wOk (y.1 0) := by rw [← e0]; exact hO
  have hdM : isN (y.1 0 1 2) 10000 := by rw [← e0]; exact hd
  have hgM : y.1 0 1 1 = 0 := by rw [← e0]; exact hg
  obtain ⟨t, ht, e1, e2⟩ := hs.2.2.1
  obtain ⟨hsh, hmk, hR⟩ := hs.2.2.2.2.2
  refine lv_aload_n hx hb dL_law_640 rfl (lv_at hl 1 rfl) ?_
  refine lv_aload_n hx hb dL_law_641 rfl (lv_at hl 0 rfl) ?_
  refine lv_iload_n hx hb dL_law_642 rfl (lv_at hl 3 rfl) ?_
  refine lv_iconst (v := 1) hx hb dL_law_643 (by decide) ?_
  refine lv_iadd hx hb dL_law_644 ?_
  refine n_sld (k := i + 1) hx hb hXs hbl hLn hL (na_add (b := 1) rfl rfl) (by omega) dL_law_645 ?_
  refine lv_aload_n hx hb dL_law_646 rfl (lv_at hl 0 rfl) ?_
  refine lv_iload_n hx hb dL_law_647 rfl (lv_at hl 3 rfl) ?_
  refine lv_iconst (v := 2) hx hb dL_law_648 (by decide) ?_
  refine lv_iadd hx hb dL_law_649 ?_
  refine n_sld (k := i + 2) hx hb hXs hbl hLn hL (na_add (b := 2) rfl rfl) (by omega) dL_law_650 ?_
  refine L_C (va_Run.mono (k_V (As := [.int (xq (i + 1)), .int (xq (i + 2))]) (rest := []) F (k_X0_leave x hO hd (xq (i + 1)) (xq (i + 2))) (cwV 2 hts (lw_V q818 q819 q820 q91 q821) rfl rfl rfl (by decide +kernel) ⟨Nat.le_of_ble_eq_true rfl, Nat.le_of_ble_eq_true rfl⟩) hL.1 hK (hw.recv hL.1 hK cf_main rfl) rfl hl.1 rfl (Nat.le_of_ble_eq_true rfl) dL_law_651 ⟨show cells ≤ 814468 by omega, show slots ≤ 6652701 by omega⟩) jQ_C) hL (fun x2 H1 locs1 hP hL => ?_)
  refine W.widen (k := cells) (n := slots) (Nat.le_refl _) (Nat.le_refl _) ?_
  show W p l e room_1 s m #[Value.ref b] below meth c H1 locs1 cells slots Q (F0 m 654 ls [.int (aR (a_leave (x.1 0) (xq (i + 1)) (xq (i + 2))))])
  refine lv_aload_n hx hb dL_law_654 rfl (lv_at hl 2 rfl) ?_
  refine lv_aload_n hx hb dL_law_655 rfl (lv_at hl 0 rfl) ?_
  refine lv_iload_n hx hb dL_law_656 rfl (lv_at hl 3 rfl) ?_
  refine lv_iconst (v := 1) hx hb dL_law_657 (by decide) ?_
  refine lv_iadd hx hb dL_law_658 ?_
  refine n_sld (k := i + 1) hx hb hXs hbl hLn hL (na_add (b := 1) rfl rfl) (by omega) dL_law_659 ?_
  refine lv_aload_n hx hb dL_law_660 rfl (lv_at hl 0 rfl) ?_
  refine lv_iload_n hx hb dL_law_661 rfl (lv_at hl 3 rfl) ?_
  refine lv_iconst (v := 2) hx hb dL_law_662 (by decide) ?_
  refine lv_iadd hx hb dL_law_663 ?_
  refine n_sld (k := i + 2) hx hb hXs hbl hLn hL (na_add (b := 2) rfl rfl) (by omega) dL_law_664 ?_
  refine L_M (va_Run.mono (k_V (As := [.int (xq (i + 1)), .int (xq (i + 2))]) (rest := [.int (aR (a_leave (x.1 0) (xq (i + 1)) (xq (i + 2))))]) F (k_X13_leave y hOM hdM (xq (i + 1)) (xq (i + 2))) (cwV 2 hts (lw_V q1419 q1420 q1421 q107 q1422) rfl rfl rfl (by decide +kernel) ⟨Nat.le_of_ble_eq_true rfl, Nat.le_of_ble_eq_true rfl⟩) hL.2.1 hK (hw.recv hL.2.1 hK mf_main rfl) rfl hl.1 rfl (Nat.le_of_ble_eq_true rfl) dL_law_665 ⟨show cells ≤ 814468 by omega, show slots ≤ 6652701 by omega⟩) jQ_M) hL (fun y2 H1 locs1 hP2 hL => ?_)
  show W p l e room_1 s m #[Value.ref b] below meth c H1 locs1 cells slots Q (F0 m 668 ls [.int (aR (a_leave (y.1 0) (xq (i + 1)) (xq (i + 2)))), .int (aR (a_leave (x.1 0) (xq (i + 1)) (xq (i + 2))))])
  have eq : (aR (a_leave (x.1 0) (xq (i + 1)) (xq (i + 2))) : Int32) = aR (a_leave (y.1 0) (xq (i + 1)) (xq (i + 2))) := by rw [e0]
  refine lv_icmp_eq (tgt := 1399) hx hb dL_law_668 (by decide) (fun _ => ?_) (fun h => absurd eq h)
  refine W.widen (k := cells + 1) (n := slots + 40) (Nat.le_add_right _ _) (Nat.le_add_right _ _) ?_
  have hS2 : Sim (n + 1) (aC x (a_leave (x.1 0) (xq (i + 1)) (xq (i + 2)))) (aM y (a_leave (y.1 0) (xq (i + 1)) (xq (i + 2)))) := by rw [← e0]; exact Sim_rd hs _ (rd_leave _ _ _)
  exact kk x2 y2 H1 locs1 (hS2.j hP hP2) hL
set_option maxHeartbeats 400000 in
theorem lc_15 {p : Program} {l : Launch} {e : Env} {s : State} {m : MethodId} {below : List Frame} {meth : Method} {c : Code} {b Ln : Nat} {xq : Nat → Int32} {D : va_G} {σ : Nat × Nat × Value} {z : Value × Value} {L LM : Nat → Nat} {x : cst} {y : mst} {n i cells slots : Nat} {H : Heap} {locs : List Loc} {ls : Array Slot} {Q : State → Prop} (G : LG p s m meth c b Ln xq D σ z) (hs : Sim n x y) (hn : n ≤ 63) (hL : LW D L LM s x y H locs) (hl : lv_has ls 4 [(0, .ref b), (1, .ref (L 44)), (2, .ref (LM 0)), (3, .int (nI i))]) (hi : i + 6 ≤ Ln) (hcs : cells ≤ 1000 ∧ slots ≤ 100000) (kk : ∀ (x' : cst) (y' : mst) (H1 : Heap) (locs1 : List Loc), Sim (n + 1) x' y' → LW D L LM s x' y' H1 locs1 → W p l e room_1 s m #[Value.ref b] below meth c H1 locs1 (cells + 1) (slots + 40) Q (F0 m 1399 ls [])) : W p l e room_1 s m #[Value.ref b] below meth c H locs cells slots Q (F0 m 673 ls []) := by
  obtain ⟨⟨hx, hb, hr, hml, hown, hts0, hXs, hbl, hlocks, hgv⟩, hK, hSS, hσ, hX, hLn⟩ := G
  have hts : ∀ w ∈ lw_all, w.before #[Value.ref b] s = true := fun w h => hts0 w (lw_all_tbl h)
  have F : CallFix p m c code 4 s #[Value.ref b] lw_all R_law := ⟨hx, hb, hml, hown, hts⟩
  have e0 := hs.1.1
  have hO := hs.1.2.1
  have hd := hs.1.2.d (by omega)
  have hg := hs.1.2.2.1
  have hOM : wOk (y.1 0) := by rw [← e0]; exact hO
  have hdM : isN (y.1 0 1 2) 10000 := by rw [← e0]; exact hd
  have hgM : y.1 0 1 1 = 0 := by rw [← e0]; exact hg
  obtain ⟨t, ht, e1, e2⟩ := hs.2.2.1
  obtain ⟨hsh, hmk, hR⟩ := hs.2.2.2.2.2
  refine lv_aload_n hx hb dL_law_673 rfl (lv_at hl 1 rfl) ?_
  refine lv_aload_n hx hb dL_law_674 rfl (lv_at hl 0 rfl) ?_
  refine lv_iload_n hx hb dL_law_675 rfl (lv_at hl 3 rfl) ?_
  refine lv_iconst (v := 1) hx hb dL_law_676 (by decide) ?_
  refine lv_iadd hx hb dL_law_677 ?_
  refine n_sld (k := i + 1) hx hb hXs hbl hLn hL (na_add (b := 1) rfl rfl) (by omega) dL_law_678 ?_
  refine lv_aload_n hx hb dL_law_679 rfl (lv_at hl 0 rfl) ?_
  refine lv_iload_n hx hb dL_law_680 rfl (lv_at hl 3 rfl) ?_
  refine lv_iconst (v := 2) hx hb dL_law_681 (by decide) ?_
  refine lv_iadd hx hb dL_law_682 ?_
  refine n_sld (k := i + 2) hx hb hXs hbl hLn hL (na_add (b := 2) rfl rfl) (by omega) dL_law_683 ?_
  refine lv_aload_n hx hb dL_law_684 rfl (lv_at hl 0 rfl) ?_
  refine lv_iload_n hx hb dL_law_685 rfl (lv_at hl 3 rfl) ?_
  refine lv_iconst (v := 3) hx hb dL_law_686 (by decide) ?_
  refine lv_iadd hx hb dL_law_687 ?_
  refine n_sld (k := i + 3) hx hb hXs hbl hLn hL (na_add (b := 3) rfl rfl) (by omega) dL_law_688 ?_
  refine L_C (va_Run.mono (k_V (As := [.int (xq (i + 1)), .int (xq (i + 2)), .int (xq (i + 3))]) (rest := []) F (k_X0_openFor x hO hd (xq (i + 1)) (xq (i + 2)) (xq (i + 3))) (cwV 3 hts (lw_V q830 q831 q832 q91 q833) rfl rfl rfl (by decide +kernel) ⟨Nat.le_of_ble_eq_true rfl, Nat.le_of_ble_eq_true rfl⟩) hL.1 hK (hw.recv hL.1 hK cf_main rfl) rfl hl.1 rfl (Nat.le_of_ble_eq_true rfl) dL_law_689 ⟨show cells ≤ 814468 by omega, show slots ≤ 6652701 by omega⟩) jQ_C) hL (fun x2 H1 locs1 hP hL => ?_)
  refine W.widen (k := cells) (n := slots) (Nat.le_refl _) (Nat.le_refl _) ?_
  show W p l e room_1 s m #[Value.ref b] below meth c H1 locs1 cells slots Q (F0 m 692 ls [.int (aR (a_openFor (x.1 0) (xq (i + 1)) (xq (i + 2)) (xq (i + 3))))])
  refine lv_aload_n hx hb dL_law_692 rfl (lv_at hl 2 rfl) ?_
  refine lv_aload_n hx hb dL_law_693 rfl (lv_at hl 0 rfl) ?_
  refine lv_iload_n hx hb dL_law_694 rfl (lv_at hl 3 rfl) ?_
  refine lv_iconst (v := 1) hx hb dL_law_695 (by decide) ?_
  refine lv_iadd hx hb dL_law_696 ?_
  refine n_sld (k := i + 1) hx hb hXs hbl hLn hL (na_add (b := 1) rfl rfl) (by omega) dL_law_697 ?_
  refine lv_aload_n hx hb dL_law_698 rfl (lv_at hl 0 rfl) ?_
  refine lv_iload_n hx hb dL_law_699 rfl (lv_at hl 3 rfl) ?_
  refine lv_iconst (v := 2) hx hb dL_law_700 (by decide) ?_
  refine lv_iadd hx hb dL_law_701 ?_
  refine n_sld (k := i + 2) hx hb hXs hbl hLn hL (na_add (b := 2) rfl rfl) (by omega) dL_law_702 ?_
  refine lv_aload_n hx hb dL_law_703 rfl (lv_at hl 0 rfl) ?_
  refine lv_iload_n hx hb dL_law_704 rfl (lv_at hl 3 rfl) ?_
  refine lv_iconst (v := 3) hx hb dL_law_705 (by decide) ?_
  refine lv_iadd hx hb dL_law_706 ?_
  refine n_sld (k := i + 3) hx hb hXs hbl hLn hL (na_add (b := 3) rfl rfl) (by omega) dL_law_707 ?_
  refine L_M (va_Run.mono (k_V (As := [.int (xq (i + 1)), .int (xq (i + 2)), .int (xq (i + 3))]) (rest := [.int (aR (a_openFor (x.1 0) (xq (i + 1)) (xq (i + 2)) (xq (i + 3))))]) F (k_X13_openFor y hOM hdM (xq (i + 1)) (xq (i + 2)) (xq (i + 3))) (cwV 3 hts (lw_V q1427 q1428 q1429 q107 q1430) rfl rfl rfl (by decide +kernel) ⟨Nat.le_of_ble_eq_true rfl, Nat.le_of_ble_eq_true rfl⟩) hL.2.1 hK (hw.recv hL.2.1 hK mf_main rfl) rfl hl.1 rfl (Nat.le_of_ble_eq_true rfl) dL_law_708 ⟨show cells ≤ 814468 by omega, show slots ≤ 6652701 by omega⟩) jQ_M) hL (fun y2 H1 locs1 hP2 hL => ?_)
  show W p l e room_1 s m #[Value.ref b] below meth c H1 locs1 cells slots Q (F0 m 711 ls [.int (aR (a_openFor (y.1 0) (xq (i + 1)) (xq (i + 2)) (xq (i + 3)))), .int (aR (a_openFor (x.1 0) (xq (i + 1)) (xq (i + 2)) (xq (i + 3))))])
  have eq : (aR (a_openFor (x.1 0) (xq (i + 1)) (xq (i + 2)) (xq (i + 3))) : Int32) = aR (a_openFor (y.1 0) (xq (i + 1)) (xq (i + 2)) (xq (i + 3))) := by rw [e0]
  refine lv_icmp_eq (tgt := 1399) hx hb dL_law_711 (by decide) (fun _ => ?_) (fun h => absurd eq h)
  refine W.widen (k := cells + 1) (n := slots + 40) (Nat.le_add_right _ _) (Nat.le_add_right _ _) ?_
  have hS2 : Sim (n + 1) (aC x (a_openFor (x.1 0) (xq (i + 1)) (xq (i + 2)) (xq (i + 3)))) (aM y (a_openFor (y.1 0) (xq (i + 1)) (xq (i + 2)) (xq (i + 3)))) := by rw [← e0]; exact Sim_rd hs _ (rd_openFor _ _ _ _)
  exact kk x2 y2 H1 locs1 (hS2.j hP hP2) hL
set_option maxHeartbeats 400000 in
theorem lc_16 {p : Program} {l : Launch} {e : Env} {s : State} {m : MethodId} {below : List Frame} {meth : Method} {c : Code} {b Ln : Nat} {xq : Nat → Int32} {D : va_G} {σ : Nat × Nat × Value} {z : Value × Value} {L LM : Nat → Nat} {x : cst} {y : mst} {n i cells slots : Nat} {H : Heap} {locs : List Loc} {ls : Array Slot} {Q : State → Prop} (G : LG p s m meth c b Ln xq D σ z) (hs : Sim n x y) (hn : n ≤ 63) (hL : LW D L LM s x y H locs) (hl : lv_has ls 4 [(0, .ref b), (1, .ref (L 44)), (2, .ref (LM 0)), (3, .int (nI i))]) (hi : i + 6 ≤ Ln) (hcs : cells ≤ 1000 ∧ slots ≤ 100000) (kk : ∀ (x' : cst) (y' : mst) (H1 : Heap) (locs1 : List Loc), Sim (n + 1) x' y' → LW D L LM s x' y' H1 locs1 → W p l e room_1 s m #[Value.ref b] below meth c H1 locs1 (cells + 1) (slots + 40) Q (F0 m 1399 ls [])) : W p l e room_1 s m #[Value.ref b] below meth c H locs cells slots Q (F0 m 716 ls []) := by
  obtain ⟨⟨hx, hb, hr, hml, hown, hts0, hXs, hbl, hlocks, hgv⟩, hK, hSS, hσ, hX, hLn⟩ := G
  have hts : ∀ w ∈ lw_all, w.before #[Value.ref b] s = true := fun w h => hts0 w (lw_all_tbl h)
  have F : CallFix p m c code 4 s #[Value.ref b] lw_all R_law := ⟨hx, hb, hml, hown, hts⟩
  have e0 := hs.1.1
  have hO := hs.1.2.1
  have hd := hs.1.2.d (by omega)
  have hg := hs.1.2.2.1
  have hOM : wOk (y.1 0) := by rw [← e0]; exact hO
  have hdM : isN (y.1 0 1 2) 10000 := by rw [← e0]; exact hd
  have hgM : y.1 0 1 1 = 0 := by rw [← e0]; exact hg
  obtain ⟨t, ht, e1, e2⟩ := hs.2.2.1
  obtain ⟨hsh, hmk, hR⟩ := hs.2.2.2.2.2
  refine lv_aload_n hx hb dL_law_716 rfl (lv_at hl 1 rfl) ?_
  refine lv_aload_n hx hb dL_law_717 rfl (lv_at hl 0 rfl) ?_
  refine lv_iload_n hx hb dL_law_718 rfl (lv_at hl 3 rfl) ?_
  refine lv_iconst (v := 1) hx hb dL_law_719 (by decide) ?_
  refine lv_iadd hx hb dL_law_720 ?_
  refine n_sld (k := i + 1) hx hb hXs hbl hLn hL (na_add (b := 1) rfl rfl) (by omega) dL_law_721 ?_
  refine lv_aload_n hx hb dL_law_722 rfl (lv_at hl 0 rfl) ?_
  refine lv_iload_n hx hb dL_law_723 rfl (lv_at hl 3 rfl) ?_
  refine lv_iconst (v := 2) hx hb dL_law_724 (by decide) ?_
  refine lv_iadd hx hb dL_law_725 ?_
  refine n_sld (k := i + 2) hx hb hXs hbl hLn hL (na_add (b := 2) rfl rfl) (by omega) dL_law_726 ?_
  refine L_C (va_Run.mono (k_V (As := [.int (xq (i + 1)), .int (xq (i + 2))]) (rest := []) F (k_X0_kindFor x hO hd (xq (i + 1)) (xq (i + 2))) (cwV 2 hts (lw_V q838 q839 q840 q91 q841) rfl rfl rfl (by decide +kernel) ⟨Nat.le_of_ble_eq_true rfl, Nat.le_of_ble_eq_true rfl⟩) hL.1 hK (hw.recv hL.1 hK cf_main rfl) rfl hl.1 rfl (Nat.le_of_ble_eq_true rfl) dL_law_727 ⟨show cells ≤ 814468 by omega, show slots ≤ 6652701 by omega⟩) jQ_C) hL (fun x2 H1 locs1 hP hL => ?_)
  refine W.widen (k := cells) (n := slots) (Nat.le_refl _) (Nat.le_refl _) ?_
  show W p l e room_1 s m #[Value.ref b] below meth c H1 locs1 cells slots Q (F0 m 730 ls [.int (aR (a_kindFor (x.1 0) (xq (i + 1)) (xq (i + 2))))])
  refine lv_aload_n hx hb dL_law_730 rfl (lv_at hl 2 rfl) ?_
  refine lv_aload_n hx hb dL_law_731 rfl (lv_at hl 0 rfl) ?_
  refine lv_iload_n hx hb dL_law_732 rfl (lv_at hl 3 rfl) ?_
  refine lv_iconst (v := 1) hx hb dL_law_733 (by decide) ?_
  refine lv_iadd hx hb dL_law_734 ?_
  refine n_sld (k := i + 1) hx hb hXs hbl hLn hL (na_add (b := 1) rfl rfl) (by omega) dL_law_735 ?_
  refine lv_aload_n hx hb dL_law_736 rfl (lv_at hl 0 rfl) ?_
  refine lv_iload_n hx hb dL_law_737 rfl (lv_at hl 3 rfl) ?_
  refine lv_iconst (v := 2) hx hb dL_law_738 (by decide) ?_
  refine lv_iadd hx hb dL_law_739 ?_
  refine n_sld (k := i + 2) hx hb hXs hbl hLn hL (na_add (b := 2) rfl rfl) (by omega) dL_law_740 ?_
  refine L_M (va_Run.mono (k_V (As := [.int (xq (i + 1)), .int (xq (i + 2))]) (rest := [.int (aR (a_kindFor (x.1 0) (xq (i + 1)) (xq (i + 2))))]) F (k_X13_kindFor y hOM hdM (xq (i + 1)) (xq (i + 2))) (cwV 2 hts (lw_V q1431 q1432 q1433 q107 q1434) rfl rfl rfl (by decide +kernel) ⟨Nat.le_of_ble_eq_true rfl, Nat.le_of_ble_eq_true rfl⟩) hL.2.1 hK (hw.recv hL.2.1 hK mf_main rfl) rfl hl.1 rfl (Nat.le_of_ble_eq_true rfl) dL_law_741 ⟨show cells ≤ 814468 by omega, show slots ≤ 6652701 by omega⟩) jQ_M) hL (fun y2 H1 locs1 hP2 hL => ?_)
  show W p l e room_1 s m #[Value.ref b] below meth c H1 locs1 cells slots Q (F0 m 744 ls [.int (aR (a_kindFor (y.1 0) (xq (i + 1)) (xq (i + 2)))), .int (aR (a_kindFor (x.1 0) (xq (i + 1)) (xq (i + 2))))])
  have eq : (aR (a_kindFor (x.1 0) (xq (i + 1)) (xq (i + 2))) : Int32) = aR (a_kindFor (y.1 0) (xq (i + 1)) (xq (i + 2))) := by rw [e0]
  refine lv_icmp_eq (tgt := 1399) hx hb dL_law_744 (by decide) (fun _ => ?_) (fun h => absurd eq h)
  refine W.widen (k := cells + 1) (n := slots + 40) (Nat.le_add_right _ _) (Nat.le_add_right _ _) ?_
  have hS2 : Sim (n + 1) (aC x (a_kindFor (x.1 0) (xq (i + 1)) (xq (i + 2)))) (aM y (a_kindFor (y.1 0) (xq (i + 1)) (xq (i + 2)))) := by rw [← e0]; exact Sim_rd hs _ (rd_kindFor _ _ _)
  exact kk x2 y2 H1 locs1 (hS2.j hP hP2) hL
set_option maxHeartbeats 400000 in
theorem lc_17 {p : Program} {l : Launch} {e : Env} {s : State} {m : MethodId} {below : List Frame} {meth : Method} {c : Code} {b Ln : Nat} {xq : Nat → Int32} {D : va_G} {σ : Nat × Nat × Value} {z : Value × Value} {L LM : Nat → Nat} {x : cst} {y : mst} {n i cells slots : Nat} {H : Heap} {locs : List Loc} {ls : Array Slot} {Q : State → Prop} (G : LG p s m meth c b Ln xq D σ z) (hs : Sim n x y) (hn : n ≤ 63) (hL : LW D L LM s x y H locs) (hl : lv_has ls 4 [(0, .ref b), (1, .ref (L 44)), (2, .ref (LM 0)), (3, .int (nI i))]) (hi : i + 6 ≤ Ln) (hcs : cells ≤ 1000 ∧ slots ≤ 100000) (kk : ∀ (x' : cst) (y' : mst) (H1 : Heap) (locs1 : List Loc), Sim (n + 1) x' y' → LW D L LM s x' y' H1 locs1 → W p l e room_1 s m #[Value.ref b] below meth c H1 locs1 (cells + 1) (slots + 40) Q (F0 m 1399 ls [])) : W p l e room_1 s m #[Value.ref b] below meth c H locs cells slots Q (F0 m 749 ls []) := by
  obtain ⟨⟨hx, hb, hr, hml, hown, hts0, hXs, hbl, hlocks, hgv⟩, hK, hSS, hσ, hX, hLn⟩ := G
  have hts : ∀ w ∈ lw_all, w.before #[Value.ref b] s = true := fun w h => hts0 w (lw_all_tbl h)
  have F : CallFix p m c code 4 s #[Value.ref b] lw_all R_law := ⟨hx, hb, hml, hown, hts⟩
  have e0 := hs.1.1
  have hO := hs.1.2.1
  have hd := hs.1.2.d (by omega)
  have hg := hs.1.2.2.1
  have hOM : wOk (y.1 0) := by rw [← e0]; exact hO
  have hdM : isN (y.1 0 1 2) 10000 := by rw [← e0]; exact hd
  have hgM : y.1 0 1 1 = 0 := by rw [← e0]; exact hg
  obtain ⟨t, ht, e1, e2⟩ := hs.2.2.1
  obtain ⟨hsh, hmk, hR⟩ := hs.2.2.2.2.2
  refine lv_aload_n hx hb dL_law_749 rfl (lv_at hl 1 rfl) ?_
  refine lv_aload_n hx hb dL_law_750 rfl (lv_at hl 0 rfl) ?_
  refine lv_iload_n hx hb dL_law_751 rfl (lv_at hl 3 rfl) ?_
  refine lv_iconst (v := 1) hx hb dL_law_752 (by decide) ?_
  refine lv_iadd hx hb dL_law_753 ?_
  refine n_sld (k := i + 1) hx hb hXs hbl hLn hL (na_add (b := 1) rfl rfl) (by omega) dL_law_754 ?_
  refine L_C (va_Run.mono (k_V (As := [.int (xq (i + 1))]) (rest := []) F (k_X0_lower x hO (xq (i + 1))) (cwV 1 hts (lw_V q842 q843 q844 q91 q845) rfl rfl rfl (by decide +kernel) ⟨Nat.le_of_ble_eq_true rfl, Nat.le_of_ble_eq_true rfl⟩) hL.1 hK (hw.recv hL.1 hK cf_main rfl) rfl hl.1 rfl (Nat.le_of_ble_eq_true rfl) dL_law_755 ⟨show cells ≤ 814468 by omega, show slots ≤ 6652701 by omega⟩) jQ_C) hL (fun x2 H1 locs1 hP hL => ?_)
  refine W.widen (k := cells) (n := slots) (Nat.le_refl _) (Nat.le_refl _) ?_
  show W p l e room_1 s m #[Value.ref b] below meth c H1 locs1 cells slots Q (F0 m 758 ls [.int (aR (a_lower (x.1 0) (xq (i + 1))))])
  refine lv_aload_n hx hb dL_law_758 rfl (lv_at hl 2 rfl) ?_
  refine lv_aload_n hx hb dL_law_759 rfl (lv_at hl 0 rfl) ?_
  refine lv_iload_n hx hb dL_law_760 rfl (lv_at hl 3 rfl) ?_
  refine lv_iconst (v := 1) hx hb dL_law_761 (by decide) ?_
  refine lv_iadd hx hb dL_law_762 ?_
  refine n_sld (k := i + 1) hx hb hXs hbl hLn hL (na_add (b := 1) rfl rfl) (by omega) dL_law_763 ?_
  refine L_M (va_Run.mono (k_V (As := [.int (xq (i + 1))]) (rest := [.int (aR (a_lower (x.1 0) (xq (i + 1))))]) F (k_X13_lower y hOM (xq (i + 1))) (cwV 1 hts (lw_V q1435 q1436 q1437 q107 q1438) rfl rfl rfl (by decide +kernel) ⟨Nat.le_of_ble_eq_true rfl, Nat.le_of_ble_eq_true rfl⟩) hL.2.1 hK (hw.recv hL.2.1 hK mf_main rfl) rfl hl.1 rfl (Nat.le_of_ble_eq_true rfl) dL_law_764 ⟨show cells ≤ 814468 by omega, show slots ≤ 6652701 by omega⟩) jQ_M) hL (fun y2 H1 locs1 hP2 hL => ?_)
  show W p l e room_1 s m #[Value.ref b] below meth c H1 locs1 cells slots Q (F0 m 767 ls [.int (aR (a_lower (y.1 0) (xq (i + 1)))), .int (aR (a_lower (x.1 0) (xq (i + 1))))])
  have eq : (aR (a_lower (x.1 0) (xq (i + 1))) : Int32) = aR (a_lower (y.1 0) (xq (i + 1))) := by rw [e0]
  refine lv_icmp_eq (tgt := 1399) hx hb dL_law_767 (by decide) (fun _ => ?_) (fun h => absurd eq h)
  refine W.widen (k := cells + 1) (n := slots + 40) (Nat.le_add_right _ _) (Nat.le_add_right _ _) ?_
  have hS2 : Sim (n + 1) (aC x (a_lower (x.1 0) (xq (i + 1)))) (aM y (a_lower (y.1 0) (xq (i + 1)))) := by rw [← e0]; exact Sim_rd hs _ (rd_lower _ _)
  exact kk x2 y2 H1 locs1 (hS2.j hP hP2) hL
set_option maxHeartbeats 400000 in
theorem lc_18 {p : Program} {l : Launch} {e : Env} {s : State} {m : MethodId} {below : List Frame} {meth : Method} {c : Code} {b Ln : Nat} {xq : Nat → Int32} {D : va_G} {σ : Nat × Nat × Value} {z : Value × Value} {L LM : Nat → Nat} {x : cst} {y : mst} {n i cells slots : Nat} {H : Heap} {locs : List Loc} {ls : Array Slot} {Q : State → Prop} (G : LG p s m meth c b Ln xq D σ z) (hs : Sim n x y) (hn : n ≤ 63) (hL : LW D L LM s x y H locs) (hl : lv_has ls 4 [(0, .ref b), (1, .ref (L 44)), (2, .ref (LM 0)), (3, .int (nI i))]) (hi : i + 6 ≤ Ln) (hcs : cells ≤ 1000 ∧ slots ≤ 100000) (kk : ∀ (x' : cst) (y' : mst) (H1 : Heap) (locs1 : List Loc), Sim (n + 1) x' y' → LW D L LM s x' y' H1 locs1 → W p l e room_1 s m #[Value.ref b] below meth c H1 locs1 (cells + 1) (slots + 40) Q (F0 m 1399 ls [])) : W p l e room_1 s m #[Value.ref b] below meth c H locs cells slots Q (F0 m 772 ls []) := by
  obtain ⟨⟨hx, hb, hr, hml, hown, hts0, hXs, hbl, hlocks, hgv⟩, hK, hSS, hσ, hX, hLn⟩ := G
  have hts : ∀ w ∈ lw_all, w.before #[Value.ref b] s = true := fun w h => hts0 w (lw_all_tbl h)
  have F : CallFix p m c code 4 s #[Value.ref b] lw_all R_law := ⟨hx, hb, hml, hown, hts⟩
  have e0 := hs.1.1
  have hO := hs.1.2.1
  have hd := hs.1.2.d (by omega)
  have hg := hs.1.2.2.1
  have hOM : wOk (y.1 0) := by rw [← e0]; exact hO
  have hdM : isN (y.1 0 1 2) 10000 := by rw [← e0]; exact hd
  have hgM : y.1 0 1 1 = 0 := by rw [← e0]; exact hg
  obtain ⟨t, ht, e1, e2⟩ := hs.2.2.1
  obtain ⟨hsh, hmk, hR⟩ := hs.2.2.2.2.2
  refine lv_aload_n hx hb dL_law_772 rfl (lv_at hl 1 rfl) ?_
  refine lv_aload_n hx hb dL_law_773 rfl (lv_at hl 0 rfl) ?_
  refine lv_iload_n hx hb dL_law_774 rfl (lv_at hl 3 rfl) ?_
  refine lv_iconst (v := 1) hx hb dL_law_775 (by decide) ?_
  refine lv_iadd hx hb dL_law_776 ?_
  refine n_sld (k := i + 1) hx hb hXs hbl hLn hL (na_add (b := 1) rfl rfl) (by omega) dL_law_777 ?_
  refine L_C (va_Run.mono (k_V (As := [.int (xq (i + 1))]) (rest := []) F (k_X0_cover x hO hd (xq (i + 1))) (cwV 1 hts (lw_V q850 q851 q852 q91 q853) rfl rfl rfl (by decide +kernel) ⟨Nat.le_of_ble_eq_true rfl, Nat.le_of_ble_eq_true rfl⟩) hL.1 hK (hw.recv hL.1 hK cf_main rfl) rfl hl.1 rfl (Nat.le_of_ble_eq_true rfl) dL_law_778 ⟨show cells ≤ 814468 by omega, show slots ≤ 6652701 by omega⟩) jQ_C) hL (fun x2 H1 locs1 hP hL => ?_)
  refine W.widen (k := cells) (n := slots) (Nat.le_refl _) (Nat.le_refl _) ?_
  show W p l e room_1 s m #[Value.ref b] below meth c H1 locs1 cells slots Q (F0 m 781 ls [.int (aR (a_cover (x.1 0) (xq (i + 1))))])
  refine lv_aload_n hx hb dL_law_781 rfl (lv_at hl 2 rfl) ?_
  refine lv_aload_n hx hb dL_law_782 rfl (lv_at hl 0 rfl) ?_
  refine lv_iload_n hx hb dL_law_783 rfl (lv_at hl 3 rfl) ?_
  refine lv_iconst (v := 1) hx hb dL_law_784 (by decide) ?_
  refine lv_iadd hx hb dL_law_785 ?_
  refine n_sld (k := i + 1) hx hb hXs hbl hLn hL (na_add (b := 1) rfl rfl) (by omega) dL_law_786 ?_
  refine L_M (va_Run.mono (k_V (As := [.int (xq (i + 1))]) (rest := [.int (aR (a_cover (x.1 0) (xq (i + 1))))]) F (k_X13_cover y hOM (xq (i + 1))) (cwV 1 hts (lw_V q1439 q1440 q1441 q107 q1442) rfl rfl rfl (by decide +kernel) ⟨Nat.le_of_ble_eq_true rfl, Nat.le_of_ble_eq_true rfl⟩) hL.2.1 hK (hw.recv hL.2.1 hK mf_main rfl) rfl hl.1 rfl (Nat.le_of_ble_eq_true rfl) dL_law_787 ⟨show cells ≤ 814468 by omega, show slots ≤ 6652701 by omega⟩) jQ_M) hL (fun y2 H1 locs1 hP2 hL => ?_)
  show W p l e room_1 s m #[Value.ref b] below meth c H1 locs1 cells slots Q (F0 m 790 ls [.int (aR (a_cover (y.1 0) (xq (i + 1)))), .int (aR (a_cover (x.1 0) (xq (i + 1))))])
  have eq : (aR (a_cover (x.1 0) (xq (i + 1))) : Int32) = aR (a_cover (y.1 0) (xq (i + 1))) := by rw [e0]
  refine lv_icmp_eq (tgt := 1399) hx hb dL_law_790 (by decide) (fun _ => ?_) (fun h => absurd eq h)
  refine W.widen (k := cells + 1) (n := slots + 40) (Nat.le_add_right _ _) (Nat.le_add_right _ _) ?_
  have hS2 : Sim (n + 1) (aC x (a_cover (x.1 0) (xq (i + 1)))) (aM y (a_cover (y.1 0) (xq (i + 1)))) := by rw [← e0]; exact Sim_rd hs _ (rd_cover _ _)
  exact kk x2 y2 H1 locs1 (hS2.j hP hP2) hL
set_option maxHeartbeats 400000 in
theorem lc_19 {p : Program} {l : Launch} {e : Env} {s : State} {m : MethodId} {below : List Frame} {meth : Method} {c : Code} {b Ln : Nat} {xq : Nat → Int32} {D : va_G} {σ : Nat × Nat × Value} {z : Value × Value} {L LM : Nat → Nat} {x : cst} {y : mst} {n i cells slots : Nat} {H : Heap} {locs : List Loc} {ls : Array Slot} {Q : State → Prop} (G : LG p s m meth c b Ln xq D σ z) (hs : Sim n x y) (hn : n ≤ 63) (hL : LW D L LM s x y H locs) (hl : lv_has ls 4 [(0, .ref b), (1, .ref (L 44)), (2, .ref (LM 0)), (3, .int (nI i))]) (hi : i + 6 ≤ Ln) (hcs : cells ≤ 1000 ∧ slots ≤ 100000) (kk : ∀ (x' : cst) (y' : mst) (H1 : Heap) (locs1 : List Loc), Sim (n + 1) x' y' → LW D L LM s x' y' H1 locs1 → W p l e room_1 s m #[Value.ref b] below meth c H1 locs1 (cells + 1) (slots + 40) Q (F0 m 1399 ls [])) : W p l e room_1 s m #[Value.ref b] below meth c H locs cells slots Q (F0 m 795 ls []) := by
  obtain ⟨⟨hx, hb, hr, hml, hown, hts0, hXs, hbl, hlocks, hgv⟩, hK, hSS, hσ, hX, hLn⟩ := G
  have hts : ∀ w ∈ lw_all, w.before #[Value.ref b] s = true := fun w h => hts0 w (lw_all_tbl h)
  have F : CallFix p m c code 4 s #[Value.ref b] lw_all R_law := ⟨hx, hb, hml, hown, hts⟩
  have e0 := hs.1.1
  have hO := hs.1.2.1
  have hd := hs.1.2.d (by omega)
  have hg := hs.1.2.2.1
  have hOM : wOk (y.1 0) := by rw [← e0]; exact hO
  have hdM : isN (y.1 0 1 2) 10000 := by rw [← e0]; exact hd
  have hgM : y.1 0 1 1 = 0 := by rw [← e0]; exact hg
  obtain ⟨t, ht, e1, e2⟩ := hs.2.2.1
  obtain ⟨hsh, hmk, hR⟩ := hs.2.2.2.2.2
  refine lv_aload_n hx hb dL_law_795 rfl (lv_at hl 1 rfl) ?_
  refine lv_aload_n hx hb dL_law_796 rfl (lv_at hl 0 rfl) ?_
  refine lv_iload_n hx hb dL_law_797 rfl (lv_at hl 3 rfl) ?_
  refine lv_iconst (v := 1) hx hb dL_law_798 (by decide) ?_
  refine lv_iadd hx hb dL_law_799 ?_
  refine n_sld (k := i + 1) hx hb hXs hbl hLn hL (na_add (b := 1) rfl rfl) (by omega) dL_law_800 ?_
  refine lv_aload_n hx hb dL_law_801 rfl (lv_at hl 0 rfl) ?_
  refine lv_iload_n hx hb dL_law_802 rfl (lv_at hl 3 rfl) ?_
  refine lv_iconst (v := 2) hx hb dL_law_803 (by decide) ?_
  refine lv_iadd hx hb dL_law_804 ?_
  refine n_sld (k := i + 2) hx hb hXs hbl hLn hL (na_add (b := 2) rfl rfl) (by omega) dL_law_805 ?_
  refine lv_aload_n hx hb dL_law_806 rfl (lv_at hl 0 rfl) ?_
  refine lv_iload_n hx hb dL_law_807 rfl (lv_at hl 3 rfl) ?_
  refine lv_iconst (v := 3) hx hb dL_law_808 (by decide) ?_
  refine lv_iadd hx hb dL_law_809 ?_
  refine n_sld (k := i + 3) hx hb hXs hbl hLn hL (na_add (b := 3) rfl rfl) (by omega) dL_law_810 ?_
  refine L_C (va_Run.mono (k_V (As := [.int (xq (i + 1)), .int (xq (i + 2)), .int (xq (i + 3))]) (rest := []) F (k_X0_away x hO hd hg (xq (i + 1)) (xq (i + 2)) (xq (i + 3))) (cwV 3 hts (lw_V q858 q859 q860 q91 q861) rfl rfl rfl (by decide +kernel) ⟨Nat.le_of_ble_eq_true rfl, Nat.le_of_ble_eq_true rfl⟩) hL.1 hK (hw.recv hL.1 hK cf_main rfl) rfl hl.1 rfl (Nat.le_of_ble_eq_true rfl) dL_law_811 ⟨show cells ≤ 814468 by omega, show slots ≤ 6652701 by omega⟩) jQ_C) hL (fun x2 H1 locs1 hP hL => ?_)
  refine W.widen (k := cells) (n := slots) (Nat.le_refl _) (Nat.le_refl _) ?_
  show W p l e room_1 s m #[Value.ref b] below meth c H1 locs1 cells slots Q (F0 m 814 ls [.int (aR (a_away (x.1 0) (xq (i + 1)) (xq (i + 2)) (xq (i + 3))))])
  refine lv_aload_n hx hb dL_law_814 rfl (lv_at hl 2 rfl) ?_
  refine lv_aload_n hx hb dL_law_815 rfl (lv_at hl 0 rfl) ?_
  refine lv_iload_n hx hb dL_law_816 rfl (lv_at hl 3 rfl) ?_
  refine lv_iconst (v := 1) hx hb dL_law_817 (by decide) ?_
  refine lv_iadd hx hb dL_law_818 ?_
  refine n_sld (k := i + 1) hx hb hXs hbl hLn hL (na_add (b := 1) rfl rfl) (by omega) dL_law_819 ?_
  refine lv_aload_n hx hb dL_law_820 rfl (lv_at hl 0 rfl) ?_
  refine lv_iload_n hx hb dL_law_821 rfl (lv_at hl 3 rfl) ?_
  refine lv_iconst (v := 2) hx hb dL_law_822 (by decide) ?_
  refine lv_iadd hx hb dL_law_823 ?_
  refine n_sld (k := i + 2) hx hb hXs hbl hLn hL (na_add (b := 2) rfl rfl) (by omega) dL_law_824 ?_
  refine lv_aload_n hx hb dL_law_825 rfl (lv_at hl 0 rfl) ?_
  refine lv_iload_n hx hb dL_law_826 rfl (lv_at hl 3 rfl) ?_
  refine lv_iconst (v := 3) hx hb dL_law_827 (by decide) ?_
  refine lv_iadd hx hb dL_law_828 ?_
  refine n_sld (k := i + 3) hx hb hXs hbl hLn hL (na_add (b := 3) rfl rfl) (by omega) dL_law_829 ?_
  refine L_M (va_Run.mono (k_V (As := [.int (xq (i + 1)), .int (xq (i + 2)), .int (xq (i + 3))]) (rest := [.int (aR (a_away (x.1 0) (xq (i + 1)) (xq (i + 2)) (xq (i + 3))))]) F (k_X13_away y hOM hdM hgM (xq (i + 1)) (xq (i + 2)) (xq (i + 3))) (cwV 3 hts (lw_V q1443 q1444 q1445 q107 q1446) rfl rfl rfl (by decide +kernel) ⟨Nat.le_of_ble_eq_true rfl, Nat.le_of_ble_eq_true rfl⟩) hL.2.1 hK (hw.recv hL.2.1 hK mf_main rfl) rfl hl.1 rfl (Nat.le_of_ble_eq_true rfl) dL_law_830 ⟨show cells ≤ 814468 by omega, show slots ≤ 6652701 by omega⟩) jQ_M) hL (fun y2 H1 locs1 hP2 hL => ?_)
  show W p l e room_1 s m #[Value.ref b] below meth c H1 locs1 cells slots Q (F0 m 833 ls [.int (aR (a_away (y.1 0) (xq (i + 1)) (xq (i + 2)) (xq (i + 3)))), .int (aR (a_away (x.1 0) (xq (i + 1)) (xq (i + 2)) (xq (i + 3))))])
  have eq : (aR (a_away (x.1 0) (xq (i + 1)) (xq (i + 2)) (xq (i + 3))) : Int32) = aR (a_away (y.1 0) (xq (i + 1)) (xq (i + 2)) (xq (i + 3))) := by rw [e0]
  refine lv_icmp_eq (tgt := 1399) hx hb dL_law_833 (by decide) (fun _ => ?_) (fun h => absurd eq h)
  refine W.widen (k := cells + 1) (n := slots + 40) (Nat.le_add_right _ _) (Nat.le_add_right _ _) ?_
  have hS2 : Sim (n + 1) (aC x (a_away (x.1 0) (xq (i + 1)) (xq (i + 2)) (xq (i + 3)))) (aM y (a_away (y.1 0) (xq (i + 1)) (xq (i + 2)) (xq (i + 3)))) := by rw [← e0]; exact Sim_rd hs _ (rd_away _ _ _ _)
  exact kk x2 y2 H1 locs1 (hS2.j hP hP2) hL
set_option maxHeartbeats 400000 in
theorem lc_20 {p : Program} {l : Launch} {e : Env} {s : State} {m : MethodId} {below : List Frame} {meth : Method} {c : Code} {b Ln : Nat} {xq : Nat → Int32} {D : va_G} {σ : Nat × Nat × Value} {z : Value × Value} {L LM : Nat → Nat} {x : cst} {y : mst} {n i cells slots : Nat} {H : Heap} {locs : List Loc} {ls : Array Slot} {Q : State → Prop} (G : LG p s m meth c b Ln xq D σ z) (hs : Sim n x y) (hn : n ≤ 63) (hL : LW D L LM s x y H locs) (hl : lv_has ls 4 [(0, .ref b), (1, .ref (L 44)), (2, .ref (LM 0)), (3, .int (nI i))]) (hi : i + 6 ≤ Ln) (hcs : cells ≤ 1000 ∧ slots ≤ 100000) (kk : ∀ (x' : cst) (y' : mst) (H1 : Heap) (locs1 : List Loc), Sim (n + 1) x' y' → LW D L LM s x' y' H1 locs1 → W p l e room_1 s m #[Value.ref b] below meth c H1 locs1 (cells + 1) (slots + 40) Q (F0 m 1399 ls [])) : W p l e room_1 s m #[Value.ref b] below meth c H locs cells slots Q (F0 m 838 ls []) := by
  obtain ⟨⟨hx, hb, hr, hml, hown, hts0, hXs, hbl, hlocks, hgv⟩, hK, hSS, hσ, hX, hLn⟩ := G
  have hts : ∀ w ∈ lw_all, w.before #[Value.ref b] s = true := fun w h => hts0 w (lw_all_tbl h)
  have F : CallFix p m c code 4 s #[Value.ref b] lw_all R_law := ⟨hx, hb, hml, hown, hts⟩
  have e0 := hs.1.1
  have hO := hs.1.2.1
  have hd := hs.1.2.d (by omega)
  have hg := hs.1.2.2.1
  have hOM : wOk (y.1 0) := by rw [← e0]; exact hO
  have hdM : isN (y.1 0 1 2) 10000 := by rw [← e0]; exact hd
  have hgM : y.1 0 1 1 = 0 := by rw [← e0]; exact hg
  obtain ⟨t, ht, e1, e2⟩ := hs.2.2.1
  obtain ⟨hsh, hmk, hR⟩ := hs.2.2.2.2.2
  refine lv_aload_n hx hb dL_law_838 rfl (lv_at hl 1 rfl) ?_
  refine lv_aload_n hx hb dL_law_839 rfl (lv_at hl 0 rfl) ?_
  refine lv_iload_n hx hb dL_law_840 rfl (lv_at hl 3 rfl) ?_
  refine lv_iconst (v := 1) hx hb dL_law_841 (by decide) ?_
  refine lv_iadd hx hb dL_law_842 ?_
  refine n_sld (k := i + 1) hx hb hXs hbl hLn hL (na_add (b := 1) rfl rfl) (by omega) dL_law_843 ?_
  refine lv_aload_n hx hb dL_law_844 rfl (lv_at hl 0 rfl) ?_
  refine lv_iload_n hx hb dL_law_845 rfl (lv_at hl 3 rfl) ?_
  refine lv_iconst (v := 2) hx hb dL_law_846 (by decide) ?_
  refine lv_iadd hx hb dL_law_847 ?_
  refine n_sld (k := i + 2) hx hb hXs hbl hLn hL (na_add (b := 2) rfl rfl) (by omega) dL_law_848 ?_
  refine L_C (va_Run.mono (k_VW (n := 2) (As := [.int (xq (i + 1)), .int (xq (i + 2))]) (rest := []) F (k_X0_fits x hO hd hsh (xq (i + 1)) (xq (i + 2))) ⟨rfl, rfl⟩ ⟨Nat.le_of_ble_eq_true rfl, Nat.le_of_ble_eq_true rfl⟩ q870 q871 q872 q91 q873 (by decide +kernel) hL.1 hK (hw.recv hL.1 hK cf_main rfl) rfl hl.1 rfl (Nat.le_of_ble_eq_true rfl) dL_law_849 ⟨show cells ≤ 814468 by omega, show slots ≤ 6652701 by omega⟩) jQ_C) hL (fun x2 H1 locs1 hP hL => ?_)
  refine W.widen (k := cells) (n := slots) (Nat.le_refl _) (Nat.le_refl _) ?_
  show W p l e room_1 s m #[Value.ref b] below meth c H1 locs1 cells slots Q (F0 m 852 ls [.int (aR (a_fits 1 6 (shC x) (x.1 0) (xq (i + 1)) (xq (i + 2))))])
  refine lv_aload_n hx hb dL_law_852 rfl (lv_at hl 2 rfl) ?_
  refine lv_aload_n hx hb dL_law_853 rfl (lv_at hl 0 rfl) ?_
  refine lv_iload_n hx hb dL_law_854 rfl (lv_at hl 3 rfl) ?_
  refine lv_iconst (v := 1) hx hb dL_law_855 (by decide) ?_
  refine lv_iadd hx hb dL_law_856 ?_
  refine n_sld (k := i + 1) hx hb hXs hbl hLn hL (na_add (b := 1) rfl rfl) (by omega) dL_law_857 ?_
  refine lv_aload_n hx hb dL_law_858 rfl (lv_at hl 0 rfl) ?_
  refine lv_iload_n hx hb dL_law_859 rfl (lv_at hl 3 rfl) ?_
  refine lv_iconst (v := 2) hx hb dL_law_860 (by decide) ?_
  refine lv_iadd hx hb dL_law_861 ?_
  refine n_sld (k := i + 2) hx hb hXs hbl hLn hL (na_add (b := 2) rfl rfl) (by omega) dL_law_862 ?_
  refine L_M (va_Run.mono (k_V (As := [.int (xq (i + 1)), .int (xq (i + 2))]) (rest := [.int (aR (a_fits 1 6 (shC x) (x.1 0) (xq (i + 1)) (xq (i + 2))))]) F (k_X13_fits y hOM hdM hmk (xq (i + 1)) (xq (i + 2))) (cwV 2 hts (lw_V q1448 q1449 q1450 q107 q1451) rfl rfl rfl (by decide +kernel) ⟨Nat.le_of_ble_eq_true rfl, Nat.le_of_ble_eq_true rfl⟩) hL.2.1 hK (hw.recv hL.2.1 hK mf_main rfl) rfl hl.1 rfl (Nat.le_of_ble_eq_true rfl) dL_law_863 ⟨show cells ≤ 814468 by omega, show slots ≤ 6652701 by omega⟩) jQ_M) hL (fun y2 H1 locs1 hP2 hL => ?_)
  show W p l e room_1 s m #[Value.ref b] below meth c H1 locs1 cells slots Q (F0 m 866 ls [.int (aR (a_fits 1 6 (shMq y) (y.1 0) (xq (i + 1)) (xq (i + 2)))), .int (aR (a_fits 1 6 (shC x) (x.1 0) (xq (i + 1)) (xq (i + 2))))])
  have eq : (aR (a_fits 1 6 (shC x) (x.1 0) (xq (i + 1)) (xq (i + 2))) : Int32) = aR (a_fits 1 6 (shMq y) (y.1 0) (xq (i + 1)) (xq (i + 2))) := by rw [← e0, fits_c hR]
  refine lv_icmp_eq (tgt := 1399) hx hb dL_law_866 (by decide) (fun _ => ?_) (fun h => absurd eq h)
  refine W.widen (k := cells + 1) (n := slots + 40) (Nat.le_add_right _ _) (Nat.le_add_right _ _) ?_
  have hS2 : Sim (n + 1) (aC x (a_fits 1 6 (shC x) (x.1 0) (xq (i + 1)) (xq (i + 2)))) (aM y (a_fits 1 6 (shMq y) (y.1 0) (xq (i + 1)) (xq (i + 2)))) := by rw [← e0, fits_c hR]; exact Sim_rd hs _ (rd_fits _ _ _ _ _ _)
  exact kk x2 y2 H1 locs1 (hS2.j hP hP2) hL
set_option maxHeartbeats 400000 in
theorem lc_21 {p : Program} {l : Launch} {e : Env} {s : State} {m : MethodId} {below : List Frame} {meth : Method} {c : Code} {b Ln : Nat} {xq : Nat → Int32} {D : va_G} {σ : Nat × Nat × Value} {z : Value × Value} {L LM : Nat → Nat} {x : cst} {y : mst} {n i cells slots : Nat} {H : Heap} {locs : List Loc} {ls : Array Slot} {Q : State → Prop} (G : LG p s m meth c b Ln xq D σ z) (hs : Sim n x y) (hn : n ≤ 63) (hL : LW D L LM s x y H locs) (hl : lv_has ls 4 [(0, .ref b), (1, .ref (L 44)), (2, .ref (LM 0)), (3, .int (nI i))]) (hi : i + 6 ≤ Ln) (hcs : cells ≤ 1000 ∧ slots ≤ 100000) (kk : ∀ (x' : cst) (y' : mst) (H1 : Heap) (locs1 : List Loc), Sim (n + 1) x' y' → LW D L LM s x' y' H1 locs1 → W p l e room_1 s m #[Value.ref b] below meth c H1 locs1 (cells + 1) (slots + 40) Q (F0 m 1399 ls [])) : W p l e room_1 s m #[Value.ref b] below meth c H locs cells slots Q (F0 m 871 ls []) := by
  obtain ⟨⟨hx, hb, hr, hml, hown, hts0, hXs, hbl, hlocks, hgv⟩, hK, hSS, hσ, hX, hLn⟩ := G
  have hts : ∀ w ∈ lw_all, w.before #[Value.ref b] s = true := fun w h => hts0 w (lw_all_tbl h)
  have F : CallFix p m c code 4 s #[Value.ref b] lw_all R_law := ⟨hx, hb, hml, hown, hts⟩
  have e0 := hs.1.1
  have hO := hs.1.2.1
  have hd := hs.1.2.d (by omega)
  have hg := hs.1.2.2.1
  have hOM : wOk (y.1 0) := by rw [← e0]; exact hO
  have hdM : isN (y.1 0 1 2) 10000 := by rw [← e0]; exact hd
  have hgM : y.1 0 1 1 = 0 := by rw [← e0]; exact hg
  obtain ⟨t, ht, e1, e2⟩ := hs.2.2.1
  obtain ⟨hsh, hmk, hR⟩ := hs.2.2.2.2.2
  refine lv_aload_n hx hb dL_law_871 rfl (lv_at hl 1 rfl) ?_
  refine lv_aload_n hx hb dL_law_872 rfl (lv_at hl 0 rfl) ?_
  refine lv_iload_n hx hb dL_law_873 rfl (lv_at hl 3 rfl) ?_
  refine lv_iconst (v := 1) hx hb dL_law_874 (by decide) ?_
  refine lv_iadd hx hb dL_law_875 ?_
  refine n_sld (k := i + 1) hx hb hXs hbl hLn hL (na_add (b := 1) rfl rfl) (by omega) dL_law_876 ?_
  refine lv_aload_n hx hb dL_law_877 rfl (lv_at hl 0 rfl) ?_
  refine lv_iload_n hx hb dL_law_878 rfl (lv_at hl 3 rfl) ?_
  refine lv_iconst (v := 2) hx hb dL_law_879 (by decide) ?_
  refine lv_iadd hx hb dL_law_880 ?_
  refine n_sld (k := i + 2) hx hb hXs hbl hLn hL (na_add (b := 2) rfl rfl) (by omega) dL_law_881 ?_
  refine L_C (va_Run.mono (k_VW (n := 2) (As := [.int (xq (i + 1)), .int (xq (i + 2))]) (rest := []) F (k_X0_kinds x hO hd hsh (xq (i + 1)) (xq (i + 2))) ⟨rfl, rfl⟩ ⟨Nat.le_of_ble_eq_true rfl, Nat.le_of_ble_eq_true rfl⟩ q906 q907 q908 q91 q909 (by decide +kernel) hL.1 hK (hw.recv hL.1 hK cf_main rfl) rfl hl.1 rfl (Nat.le_of_ble_eq_true rfl) dL_law_882 ⟨show cells ≤ 814468 by omega, show slots ≤ 6652701 by omega⟩) jQ_C) hL (fun x2 H1 locs1 hP hL => ?_)
  refine W.widen (k := cells) (n := slots) (Nat.le_refl _) (Nat.le_refl _) ?_
  show W p l e room_1 s m #[Value.ref b] below meth c H1 locs1 cells slots Q (F0 m 885 ls [.int (aR (a_fits 0 7 (shC x) (x.1 0) (xq (i + 1)) (xq (i + 2))))])
  refine lv_aload_n hx hb dL_law_885 rfl (lv_at hl 2 rfl) ?_
  refine lv_aload_n hx hb dL_law_886 rfl (lv_at hl 0 rfl) ?_
  refine lv_iload_n hx hb dL_law_887 rfl (lv_at hl 3 rfl) ?_
  refine lv_iconst (v := 1) hx hb dL_law_888 (by decide) ?_
  refine lv_iadd hx hb dL_law_889 ?_
  refine n_sld (k := i + 1) hx hb hXs hbl hLn hL (na_add (b := 1) rfl rfl) (by omega) dL_law_890 ?_
  refine lv_aload_n hx hb dL_law_891 rfl (lv_at hl 0 rfl) ?_
  refine lv_iload_n hx hb dL_law_892 rfl (lv_at hl 3 rfl) ?_
  refine lv_iconst (v := 2) hx hb dL_law_893 (by decide) ?_
  refine lv_iadd hx hb dL_law_894 ?_
  refine n_sld (k := i + 2) hx hb hXs hbl hLn hL (na_add (b := 2) rfl rfl) (by omega) dL_law_895 ?_
  refine L_M (va_Run.mono (k_V (As := [.int (xq (i + 1)), .int (xq (i + 2))]) (rest := [.int (aR (a_fits 0 7 (shC x) (x.1 0) (xq (i + 1)) (xq (i + 2))))]) F (k_X13_kinds y hOM hdM hmk (xq (i + 1)) (xq (i + 2))) (cwV 2 hts (lw_V q1467 q1468 q1469 q107 q1470) rfl rfl rfl (by decide +kernel) ⟨Nat.le_of_ble_eq_true rfl, Nat.le_of_ble_eq_true rfl⟩) hL.2.1 hK (hw.recv hL.2.1 hK mf_main rfl) rfl hl.1 rfl (Nat.le_of_ble_eq_true rfl) dL_law_896 ⟨show cells ≤ 814468 by omega, show slots ≤ 6652701 by omega⟩) jQ_M) hL (fun y2 H1 locs1 hP2 hL => ?_)
  show W p l e room_1 s m #[Value.ref b] below meth c H1 locs1 cells slots Q (F0 m 899 ls [.int (aR (a_fits 0 7 (shMq y) (y.1 0) (xq (i + 1)) (xq (i + 2)))), .int (aR (a_fits 0 7 (shC x) (x.1 0) (xq (i + 1)) (xq (i + 2))))])
  have eq : (aR (a_fits 0 7 (shC x) (x.1 0) (xq (i + 1)) (xq (i + 2))) : Int32) = aR (a_fits 0 7 (shMq y) (y.1 0) (xq (i + 1)) (xq (i + 2))) := by rw [← e0, fits_c hR]
  refine lv_icmp_eq (tgt := 1399) hx hb dL_law_899 (by decide) (fun _ => ?_) (fun h => absurd eq h)
  refine W.widen (k := cells + 1) (n := slots + 40) (Nat.le_add_right _ _) (Nat.le_add_right _ _) ?_
  have hS2 : Sim (n + 1) (aC x (a_fits 0 7 (shC x) (x.1 0) (xq (i + 1)) (xq (i + 2)))) (aM y (a_fits 0 7 (shMq y) (y.1 0) (xq (i + 1)) (xq (i + 2)))) := by rw [← e0, fits_c hR]; exact Sim_rd hs _ (rd_fits _ _ _ _ _ _)
  exact kk x2 y2 H1 locs1 (hS2.j hP hP2) hL
set_option maxHeartbeats 400000 in
theorem lc_22 {p : Program} {l : Launch} {e : Env} {s : State} {m : MethodId} {below : List Frame} {meth : Method} {c : Code} {b Ln : Nat} {xq : Nat → Int32} {D : va_G} {σ : Nat × Nat × Value} {z : Value × Value} {L LM : Nat → Nat} {x : cst} {y : mst} {n i cells slots : Nat} {H : Heap} {locs : List Loc} {ls : Array Slot} {Q : State → Prop} (G : LG p s m meth c b Ln xq D σ z) (hs : Sim n x y) (hn : n ≤ 63) (hL : LW D L LM s x y H locs) (hl : lv_has ls 4 [(0, .ref b), (1, .ref (L 44)), (2, .ref (LM 0)), (3, .int (nI i))]) (hi : i + 6 ≤ Ln) (hcs : cells ≤ 1000 ∧ slots ≤ 100000) (kk : ∀ (x' : cst) (y' : mst) (H1 : Heap) (locs1 : List Loc), Sim (n + 1) x' y' → LW D L LM s x' y' H1 locs1 → W p l e room_1 s m #[Value.ref b] below meth c H1 locs1 (cells + 1) (slots + 40) Q (F0 m 1399 ls [])) : W p l e room_1 s m #[Value.ref b] below meth c H locs cells slots Q (F0 m 904 ls []) := by
  obtain ⟨⟨hx, hb, hr, hml, hown, hts0, hXs, hbl, hlocks, hgv⟩, hK, hSS, hσ, hX, hLn⟩ := G
  have hts : ∀ w ∈ lw_all, w.before #[Value.ref b] s = true := fun w h => hts0 w (lw_all_tbl h)
  have F : CallFix p m c code 4 s #[Value.ref b] lw_all R_law := ⟨hx, hb, hml, hown, hts⟩
  have e0 := hs.1.1
  have hO := hs.1.2.1
  have hd := hs.1.2.d (by omega)
  have hg := hs.1.2.2.1
  have hOM : wOk (y.1 0) := by rw [← e0]; exact hO
  have hdM : isN (y.1 0 1 2) 10000 := by rw [← e0]; exact hd
  have hgM : y.1 0 1 1 = 0 := by rw [← e0]; exact hg
  obtain ⟨t, ht, e1, e2⟩ := hs.2.2.1
  obtain ⟨hsh, hmk, hR⟩ := hs.2.2.2.2.2
  refine lv_aload_n hx hb dL_law_904 rfl (lv_at hl 1 rfl) ?_
  refine lv_aload_n hx hb dL_law_905 rfl (lv_at hl 0 rfl) ?_
  refine lv_iload_n hx hb dL_law_906 rfl (lv_at hl 3 rfl) ?_
  refine lv_iconst (v := 1) hx hb dL_law_907 (by decide) ?_
  refine lv_iadd hx hb dL_law_908 ?_
  refine n_sld (k := i + 1) hx hb hXs hbl hLn hL (na_add (b := 1) rfl rfl) (by omega) dL_law_909 ?_
  refine L_C (va_Run.mono (k_V (As := [.int (xq (i + 1))]) (rest := []) F (k_X0_talk x hO hd (xq (i + 1))) (cwV 1 hts (lw_V q910 q911 q912 q91 q913) rfl rfl rfl (by decide +kernel) ⟨Nat.le_of_ble_eq_true rfl, Nat.le_of_ble_eq_true rfl⟩) hL.1 hK (hw.recv hL.1 hK cf_main rfl) rfl hl.1 rfl (Nat.le_of_ble_eq_true rfl) dL_law_910 ⟨show cells ≤ 814468 by omega, show slots ≤ 6652701 by omega⟩) nQ_C) hL (fun x2 H1 locs1 hP hL => ?_)
  refine W.widen (k := cells) (n := slots) (Nat.le_refl _) (Nat.le_refl _) ?_
  show W p l e room_1 s m #[Value.ref b] below meth c H1 locs1 cells slots Q (F0 m 913 ls [.int (aR (a_talk (x.1 0) (xq (i + 1))))])
  refine lv_aload_n hx hb dL_law_913 rfl (lv_at hl 2 rfl) ?_
  refine lv_aload_n hx hb dL_law_914 rfl (lv_at hl 0 rfl) ?_
  refine lv_iload_n hx hb dL_law_915 rfl (lv_at hl 3 rfl) ?_
  refine lv_iconst (v := 1) hx hb dL_law_916 (by decide) ?_
  refine lv_iadd hx hb dL_law_917 ?_
  refine n_sld (k := i + 1) hx hb hXs hbl hLn hL (na_add (b := 1) rfl rfl) (by omega) dL_law_918 ?_
  refine L_M (va_Run.mono (k_V (As := [.int (xq (i + 1))]) (rest := [.int (aR (a_talk (x.1 0) (xq (i + 1))))]) F (k_X13_talk y hOM hdM (xq (i + 1))) (cwV 1 hts (lw_V q1471 q1472 q1473 q107 q1474) rfl rfl rfl (by decide +kernel) ⟨Nat.le_of_ble_eq_true rfl, Nat.le_of_ble_eq_true rfl⟩) hL.2.1 hK (hw.recv hL.2.1 hK mf_main rfl) rfl hl.1 rfl (Nat.le_of_ble_eq_true rfl) dL_law_919 ⟨show cells ≤ 814468 by omega, show slots ≤ 6652701 by omega⟩) nQ_M) hL (fun y2 H1 locs1 hP2 hL => ?_)
  show W p l e room_1 s m #[Value.ref b] below meth c H1 locs1 cells slots Q (F0 m 922 ls [.int (aR (a_talk (y.1 0) (xq (i + 1)))), .int (aR (a_talk (x.1 0) (xq (i + 1))))])
  have eq : (aR (a_talk (x.1 0) (xq (i + 1))) : Int32) = aR (a_talk (y.1 0) (xq (i + 1))) := by rw [e0]
  refine lv_icmp_eq (tgt := 1399) hx hb dL_law_922 (by decide) (fun _ => ?_) (fun h => absurd eq h)
  refine W.widen (k := cells + 1) (n := slots + 40) (Nat.le_add_right _ _) (Nat.le_add_right _ _) ?_
  have hS2 : Sim (n + 1) (aC x (a_talk (x.1 0) (xq (i + 1)))) (aM y (a_talk (y.1 0) (xq (i + 1)))) := by rw [← e0]; exact Sim_act hs (Nat.le_succ n) _ (WS_talk hs.1.2 (by omega) _)
  exact kk x2 y2 H1 locs1 (hS2.j hP hP2) hL
set_option maxHeartbeats 400000 in
theorem lc_23 {p : Program} {l : Launch} {e : Env} {s : State} {m : MethodId} {below : List Frame} {meth : Method} {c : Code} {b Ln : Nat} {xq : Nat → Int32} {D : va_G} {σ : Nat × Nat × Value} {z : Value × Value} {L LM : Nat → Nat} {x : cst} {y : mst} {n i cells slots : Nat} {H : Heap} {locs : List Loc} {ls : Array Slot} {Q : State → Prop} (G : LG p s m meth c b Ln xq D σ z) (hs : Sim n x y) (hn : n ≤ 63) (hL : LW D L LM s x y H locs) (hl : lv_has ls 4 [(0, .ref b), (1, .ref (L 44)), (2, .ref (LM 0)), (3, .int (nI i))]) (hi : i + 6 ≤ Ln) (hcs : cells ≤ 1000 ∧ slots ≤ 100000) (kk : ∀ (x' : cst) (y' : mst) (H1 : Heap) (locs1 : List Loc), Sim (n + 1) x' y' → LW D L LM s x' y' H1 locs1 → W p l e room_1 s m #[Value.ref b] below meth c H1 locs1 (cells + 1) (slots + 40) Q (F0 m 1399 ls [])) : W p l e room_1 s m #[Value.ref b] below meth c H locs cells slots Q (F0 m 927 ls []) := by
  obtain ⟨⟨hx, hb, hr, hml, hown, hts0, hXs, hbl, hlocks, hgv⟩, hK, hSS, hσ, hX, hLn⟩ := G
  have hts : ∀ w ∈ lw_all, w.before #[Value.ref b] s = true := fun w h => hts0 w (lw_all_tbl h)
  have F : CallFix p m c code 4 s #[Value.ref b] lw_all R_law := ⟨hx, hb, hml, hown, hts⟩
  have e0 := hs.1.1
  have hO := hs.1.2.1
  have hd := hs.1.2.d (by omega)
  have hg := hs.1.2.2.1
  have hOM : wOk (y.1 0) := by rw [← e0]; exact hO
  have hdM : isN (y.1 0 1 2) 10000 := by rw [← e0]; exact hd
  have hgM : y.1 0 1 1 = 0 := by rw [← e0]; exact hg
  obtain ⟨t, ht, e1, e2⟩ := hs.2.2.1
  obtain ⟨hsh, hmk, hR⟩ := hs.2.2.2.2.2
  refine lv_aload_n hx hb dL_law_927 rfl (lv_at hl 1 rfl) ?_
  refine lv_aload_n hx hb dL_law_928 rfl (lv_at hl 0 rfl) ?_
  refine lv_iload_n hx hb dL_law_929 rfl (lv_at hl 3 rfl) ?_
  refine lv_iconst (v := 1) hx hb dL_law_930 (by decide) ?_
  refine lv_iadd hx hb dL_law_931 ?_
  refine n_sld (k := i + 1) hx hb hXs hbl hLn hL (na_add (b := 1) rfl rfl) (by omega) dL_law_932 ?_
  refine lv_aload_n hx hb dL_law_933 rfl (lv_at hl 0 rfl) ?_
  refine lv_iload_n hx hb dL_law_934 rfl (lv_at hl 3 rfl) ?_
  refine lv_iconst (v := 2) hx hb dL_law_935 (by decide) ?_
  refine lv_iadd hx hb dL_law_936 ?_
  refine n_sld (k := i + 2) hx hb hXs hbl hLn hL (na_add (b := 2) rfl rfl) (by omega) dL_law_937 ?_
  refine lv_aload_n hx hb dL_law_938 rfl (lv_at hl 0 rfl) ?_
  refine lv_iload_n hx hb dL_law_939 rfl (lv_at hl 3 rfl) ?_
  refine lv_iconst (v := 3) hx hb dL_law_940 (by decide) ?_
  refine lv_iadd hx hb dL_law_941 ?_
  refine n_sld (k := i + 3) hx hb hXs hbl hLn hL (na_add (b := 3) rfl rfl) (by omega) dL_law_942 ?_
  refine L_C (va_Run.mono (k_V (As := [.int (xq (i + 1)), .int (xq (i + 2)), .int (xq (i + 3))]) (rest := []) F (k_X0_odds x hO (xq (i + 1)) (xq (i + 2)) (xq (i + 3))) (cwV 3 hts (lw_V q924 q925 q926 q91 q927) rfl rfl rfl (by decide +kernel) ⟨Nat.le_of_ble_eq_true rfl, Nat.le_of_ble_eq_true rfl⟩) hL.1 hK (hw.recv hL.1 hK cf_main rfl) rfl hl.1 rfl (Nat.le_of_ble_eq_true rfl) dL_law_943 ⟨show cells ≤ 814468 by omega, show slots ≤ 6652701 by omega⟩) nQ_C) hL (fun x2 H1 locs1 hP hL => ?_)
  refine W.widen (k := cells) (n := slots) (Nat.le_refl _) (Nat.le_refl _) ?_
  show W p l e room_1 s m #[Value.ref b] below meth c H1 locs1 cells slots Q (F0 m 946 ls [.long (aL (a_odds (x.1 0) (xq (i + 1)) (xq (i + 2)) (xq (i + 3))))])
  refine lv_aload_n hx hb dL_law_946 rfl (lv_at hl 2 rfl) ?_
  refine lv_aload_n hx hb dL_law_947 rfl (lv_at hl 0 rfl) ?_
  refine lv_iload_n hx hb dL_law_948 rfl (lv_at hl 3 rfl) ?_
  refine lv_iconst (v := 1) hx hb dL_law_949 (by decide) ?_
  refine lv_iadd hx hb dL_law_950 ?_
  refine n_sld (k := i + 1) hx hb hXs hbl hLn hL (na_add (b := 1) rfl rfl) (by omega) dL_law_951 ?_
  refine lv_aload_n hx hb dL_law_952 rfl (lv_at hl 0 rfl) ?_
  refine lv_iload_n hx hb dL_law_953 rfl (lv_at hl 3 rfl) ?_
  refine lv_iconst (v := 2) hx hb dL_law_954 (by decide) ?_
  refine lv_iadd hx hb dL_law_955 ?_
  refine n_sld (k := i + 2) hx hb hXs hbl hLn hL (na_add (b := 2) rfl rfl) (by omega) dL_law_956 ?_
  refine lv_aload_n hx hb dL_law_957 rfl (lv_at hl 0 rfl) ?_
  refine lv_iload_n hx hb dL_law_958 rfl (lv_at hl 3 rfl) ?_
  refine lv_iconst (v := 3) hx hb dL_law_959 (by decide) ?_
  refine lv_iadd hx hb dL_law_960 ?_
  refine n_sld (k := i + 3) hx hb hXs hbl hLn hL (na_add (b := 3) rfl rfl) (by omega) dL_law_961 ?_
  refine L_M (va_Run.mono (k_V (As := [.int (xq (i + 1)), .int (xq (i + 2)), .int (xq (i + 3))]) (rest := [.long (aL (a_odds (x.1 0) (xq (i + 1)) (xq (i + 2)) (xq (i + 3))))]) F (k_X13_odds y hOM (xq (i + 1)) (xq (i + 2)) (xq (i + 3))) (cwV 3 hts (lw_V q1480 q1481 q1482 q107 q1483) rfl rfl rfl (by decide +kernel) ⟨Nat.le_of_ble_eq_true rfl, Nat.le_of_ble_eq_true rfl⟩) hL.2.1 hK (hw.recv hL.2.1 hK mf_main rfl) rfl hl.1 rfl (Nat.le_of_ble_eq_true rfl) dL_law_962 ⟨show cells ≤ 814468 by omega, show slots ≤ 6652701 by omega⟩) nQ_M) hL (fun y2 H1 locs1 hP2 hL => ?_)
  show W p l e room_1 s m #[Value.ref b] below meth c H1 locs1 cells slots Q (F0 m 965 ls [.long (aL (a_odds (y.1 0) (xq (i + 1)) (xq (i + 2)) (xq (i + 3)))), .long (aL (a_odds (x.1 0) (xq (i + 1)) (xq (i + 2)) (xq (i + 3))))])
  refine W.lcmp hx hb dL_law_965 ?_
  refine lv_if_eq (tgt := 1399) hx hb dL_law_966 (by decide) (fun _ => ?_) (fun h => absurd (by rw [e0]; exact lg_self _) h)
  refine W.widen (k := cells + 1) (n := slots + 40) (Nat.le_add_right _ _) (Nat.le_add_right _ _) ?_
  have hS2 : Sim (n + 1) (aCL x (a_odds (x.1 0) (xq (i + 1)) (xq (i + 2)) (xq (i + 3)))) (aML y (a_odds (y.1 0) (xq (i + 1)) (xq (i + 2)) (xq (i + 3)))) := by rw [← e0]; exact Sim_actL hs _
  exact kk x2 y2 H1 locs1 (hS2.j hP hP2) hL
set_option maxHeartbeats 400000 in
theorem lc_24 {p : Program} {l : Launch} {e : Env} {s : State} {m : MethodId} {below : List Frame} {meth : Method} {c : Code} {b Ln : Nat} {xq : Nat → Int32} {D : va_G} {σ : Nat × Nat × Value} {z : Value × Value} {L LM : Nat → Nat} {x : cst} {y : mst} {n i cells slots : Nat} {H : Heap} {locs : List Loc} {ls : Array Slot} {Q : State → Prop} (G : LG p s m meth c b Ln xq D σ z) (hs : Sim n x y) (hn : n ≤ 63) (hL : LW D L LM s x y H locs) (hl : lv_has ls 4 [(0, .ref b), (1, .ref (L 44)), (2, .ref (LM 0)), (3, .int (nI i))]) (hi : i + 6 ≤ Ln) (hcs : cells ≤ 1000 ∧ slots ≤ 100000) (kk : ∀ (x' : cst) (y' : mst) (H1 : Heap) (locs1 : List Loc), Sim (n + 1) x' y' → LW D L LM s x' y' H1 locs1 → W p l e room_1 s m #[Value.ref b] below meth c H1 locs1 (cells + 1) (slots + 40) Q (F0 m 1399 ls [])) : W p l e room_1 s m #[Value.ref b] below meth c H locs cells slots Q (F0 m 971 ls []) := by
  obtain ⟨⟨hx, hb, hr, hml, hown, hts0, hXs, hbl, hlocks, hgv⟩, hK, hSS, hσ, hX, hLn⟩ := G
  have hts : ∀ w ∈ lw_all, w.before #[Value.ref b] s = true := fun w h => hts0 w (lw_all_tbl h)
  have F : CallFix p m c code 4 s #[Value.ref b] lw_all R_law := ⟨hx, hb, hml, hown, hts⟩
  have e0 := hs.1.1
  have hO := hs.1.2.1
  have hd := hs.1.2.d (by omega)
  have hg := hs.1.2.2.1
  have hOM : wOk (y.1 0) := by rw [← e0]; exact hO
  have hdM : isN (y.1 0 1 2) 10000 := by rw [← e0]; exact hd
  have hgM : y.1 0 1 1 = 0 := by rw [← e0]; exact hg
  obtain ⟨t, ht, e1, e2⟩ := hs.2.2.1
  obtain ⟨hsh, hmk, hR⟩ := hs.2.2.2.2.2
  refine lv_aload_n hx hb dL_law_971 rfl (lv_at hl 1 rfl) ?_
  refine lv_aload_n hx hb dL_law_972 rfl (lv_at hl 0 rfl) ?_
  refine lv_iload_n hx hb dL_law_973 rfl (lv_at hl 3 rfl) ?_
  refine lv_iconst (v := 1) hx hb dL_law_974 (by decide) ?_
  refine lv_iadd hx hb dL_law_975 ?_
  refine n_sld (k := i + 1) hx hb hXs hbl hLn hL (na_add (b := 1) rfl rfl) (by omega) dL_law_976 ?_
  refine L_C (va_Run.mono (k_V (As := [.int (xq (i + 1))]) (rest := []) F (k_X0_seed x  (xq (i + 1))) (cwV 1 hts (lw_V q931 q932 q933 q91 q934) rfl rfl rfl (by decide +kernel) ⟨Nat.le_of_ble_eq_true rfl, Nat.le_of_ble_eq_true rfl⟩) hL.1 hK (hw.recv hL.1 hK cf_main rfl) rfl hl.1 rfl (Nat.le_of_ble_eq_true rfl) dL_law_977 ⟨show cells ≤ 814468 by omega, show slots ≤ 6652701 by omega⟩) nQ_C) hL (fun x2 H1 locs1 hP hL => ?_)
  refine W.widen (k := cells) (n := slots) (Nat.le_refl _) (Nat.le_refl _) ?_
  show W p l e room_1 s m #[Value.ref b] below meth c H1 locs1 cells slots Q (F0 m 980 ls [.int (aR (a_seed (x.1 0) (xq (i + 1))))])
  refine lv_aload_n hx hb dL_law_980 rfl (lv_at hl 2 rfl) ?_
  refine lv_aload_n hx hb dL_law_981 rfl (lv_at hl 0 rfl) ?_
  refine lv_iload_n hx hb dL_law_982 rfl (lv_at hl 3 rfl) ?_
  refine lv_iconst (v := 1) hx hb dL_law_983 (by decide) ?_
  refine lv_iadd hx hb dL_law_984 ?_
  refine n_sld (k := i + 1) hx hb hXs hbl hLn hL (na_add (b := 1) rfl rfl) (by omega) dL_law_985 ?_
  refine L_M (va_Run.mono (k_V (As := [.int (xq (i + 1))]) (rest := [.int (aR (a_seed (x.1 0) (xq (i + 1))))]) F (k_X13_seed y  (xq (i + 1))) (cwV 1 hts (lw_V q1484 q1485 q1486 q107 q1487) rfl rfl rfl (by decide +kernel) ⟨Nat.le_of_ble_eq_true rfl, Nat.le_of_ble_eq_true rfl⟩) hL.2.1 hK (hw.recv hL.2.1 hK mf_main rfl) rfl hl.1 rfl (Nat.le_of_ble_eq_true rfl) dL_law_986 ⟨show cells ≤ 814468 by omega, show slots ≤ 6652701 by omega⟩) nQ_M) hL (fun y2 H1 locs1 hP2 hL => ?_)
  show W p l e room_1 s m #[Value.ref b] below meth c H1 locs1 cells slots Q (F0 m 989 ls [.int (aR (a_seed (y.1 0) (xq (i + 1)))), .int (aR (a_seed (x.1 0) (xq (i + 1))))])
  have eq : (aR (a_seed (x.1 0) (xq (i + 1))) : Int32) = aR (a_seed (y.1 0) (xq (i + 1))) := by rw [e0]
  refine lv_icmp_eq (tgt := 1399) hx hb dL_law_989 (by decide) (fun _ => ?_) (fun h => absurd eq h)
  refine W.widen (k := cells + 1) (n := slots + 40) (Nat.le_add_right _ _) (Nat.le_add_right _ _) ?_
  have hS2 : Sim (n + 1) (aC x (a_seed (x.1 0) (xq (i + 1)))) (aM y (a_seed (y.1 0) (xq (i + 1)))) := by rw [← e0]; exact Sim_act hs (Nat.le_succ n) _ (WS_seed (hs.1.2.mono (Nat.le_succ n)) _)
  exact kk x2 y2 H1 locs1 (hS2.j hP hP2) hL
set_option maxHeartbeats 400000 in
theorem lc_25 {p : Program} {l : Launch} {e : Env} {s : State} {m : MethodId} {below : List Frame} {meth : Method} {c : Code} {b Ln : Nat} {xq : Nat → Int32} {D : va_G} {σ : Nat × Nat × Value} {z : Value × Value} {L LM : Nat → Nat} {x : cst} {y : mst} {n i cells slots : Nat} {H : Heap} {locs : List Loc} {ls : Array Slot} {Q : State → Prop} (G : LG p s m meth c b Ln xq D σ z) (hs : Sim n x y) (hn : n ≤ 63) (hL : LW D L LM s x y H locs) (hl : lv_has ls 4 [(0, .ref b), (1, .ref (L 44)), (2, .ref (LM 0)), (3, .int (nI i))]) (hi : i + 6 ≤ Ln) (hcs : cells ≤ 1000 ∧ slots ≤ 100000) (kk : ∀ (x' : cst) (y' : mst) (H1 : Heap) (locs1 : List Loc), Sim (n + 1) x' y' → LW D L LM s x' y' H1 locs1 → W p l e room_1 s m #[Value.ref b] below meth c H1 locs1 (cells + 1) (slots + 40) Q (F0 m 1399 ls [])) : W p l e room_1 s m #[Value.ref b] below meth c H locs cells slots Q (F0 m 994 ls []) := by
  obtain ⟨⟨hx, hb, hr, hml, hown, hts0, hXs, hbl, hlocks, hgv⟩, hK, hSS, hσ, hX, hLn⟩ := G
  have hts : ∀ w ∈ lw_all, w.before #[Value.ref b] s = true := fun w h => hts0 w (lw_all_tbl h)
  have F : CallFix p m c code 4 s #[Value.ref b] lw_all R_law := ⟨hx, hb, hml, hown, hts⟩
  have e0 := hs.1.1
  have hO := hs.1.2.1
  have hd := hs.1.2.d (by omega)
  have hg := hs.1.2.2.1
  have hOM : wOk (y.1 0) := by rw [← e0]; exact hO
  have hdM : isN (y.1 0 1 2) 10000 := by rw [← e0]; exact hd
  have hgM : y.1 0 1 1 = 0 := by rw [← e0]; exact hg
  obtain ⟨t, ht, e1, e2⟩ := hs.2.2.1
  obtain ⟨hsh, hmk, hR⟩ := hs.2.2.2.2.2
  refine lv_aload_n hx hb dL_law_994 rfl (lv_at hl 1 rfl) ?_
  refine lv_aload_n hx hb dL_law_995 rfl (lv_at hl 0 rfl) ?_
  refine lv_iload_n hx hb dL_law_996 rfl (lv_at hl 3 rfl) ?_
  refine lv_iconst (v := 1) hx hb dL_law_997 (by decide) ?_
  refine lv_iadd hx hb dL_law_998 ?_
  refine n_sld (k := i + 1) hx hb hXs hbl hLn hL (na_add (b := 1) rfl rfl) (by omega) dL_law_999 ?_
  refine lv_aload_n hx hb dL_law_1000 rfl (lv_at hl 0 rfl) ?_
  refine lv_iload_n hx hb dL_law_1001 rfl (lv_at hl 3 rfl) ?_
  refine lv_iconst (v := 2) hx hb dL_law_1002 (by decide) ?_
  refine lv_iadd hx hb dL_law_1003 ?_
  refine n_sld (k := i + 2) hx hb hXs hbl hLn hL (na_add (b := 2) rfl rfl) (by omega) dL_law_1004 ?_
  refine L_C (va_Run.mono (k_V (As := [.int (xq (i + 1)), .int (xq (i + 2))]) (rest := []) F (k_X0_feed x (xq (i + 1)) (xq (i + 2)) t ht e1) (cwV 2 hts (lw_V q935 q936 q937 q91 q938) rfl rfl rfl (by decide +kernel) ⟨Nat.le_of_ble_eq_true rfl, Nat.le_of_ble_eq_true rfl⟩) hL.1 hK (hw.recv hL.1 hK cf_main rfl) rfl hl.1 rfl (Nat.le_of_ble_eq_true rfl) dL_law_1005 ⟨show cells ≤ 814468 by omega, show slots ≤ 6652701 by omega⟩) nQ_C) hL (fun x2 H1 locs1 hP hL => ?_)
  refine W.widen (k := cells) (n := slots) (Nat.le_refl _) (Nat.le_refl _) ?_
  show W p l e room_1 s m #[Value.ref b] below meth c H1 locs1 cells slots Q (F0 m 1008 ls [.int (aF (a_feed t (xq (i + 2))))])
  refine lv_aload_n hx hb dL_law_1008 rfl (lv_at hl 2 rfl) ?_
  refine lv_aload_n hx hb dL_law_1009 rfl (lv_at hl 0 rfl) ?_
  refine lv_iload_n hx hb dL_law_1010 rfl (lv_at hl 3 rfl) ?_
  refine lv_iconst (v := 1) hx hb dL_law_1011 (by decide) ?_
  refine lv_iadd hx hb dL_law_1012 ?_
  refine n_sld (k := i + 1) hx hb hXs hbl hLn hL (na_add (b := 1) rfl rfl) (by omega) dL_law_1013 ?_
  refine lv_aload_n hx hb dL_law_1014 rfl (lv_at hl 0 rfl) ?_
  refine lv_iload_n hx hb dL_law_1015 rfl (lv_at hl 3 rfl) ?_
  refine lv_iconst (v := 2) hx hb dL_law_1016 (by decide) ?_
  refine lv_iadd hx hb dL_law_1017 ?_
  refine n_sld (k := i + 2) hx hb hXs hbl hLn hL (na_add (b := 2) rfl rfl) (by omega) dL_law_1018 ?_
  refine L_M (va_Run.mono (k_V (As := [.int (xq (i + 1)), .int (xq (i + 2))]) (rest := [.int (aF (a_feed t (xq (i + 2))))]) F (k_X13_feed y (xq (i + 1)) (xq (i + 2)) t ht e2) (cwV 2 hts (lw_V q1488 q1489 q1490 q107 q1491) rfl rfl rfl (by decide +kernel) ⟨Nat.le_of_ble_eq_true rfl, Nat.le_of_ble_eq_true rfl⟩) hL.2.1 hK (hw.recv hL.2.1 hK mf_main rfl) rfl hl.1 rfl (Nat.le_of_ble_eq_true rfl) dL_law_1019 ⟨show cells ≤ 814468 by omega, show slots ≤ 6652701 by omega⟩) nQ_M) hL (fun y2 H1 locs1 hP2 hL => ?_)
  show W p l e room_1 s m #[Value.ref b] below meth c H1 locs1 cells slots Q (F0 m 1022 ls [.int (aF (a_feed t (xq (i + 2)))), .int (aF (a_feed t (xq (i + 2))))])
  have eq : (aF (a_feed t (xq (i + 2))) : Int32) = aF (a_feed t (xq (i + 2))) := rfl
  refine lv_icmp_eq (tgt := 1399) hx hb dL_law_1022 (by decide) (fun _ => ?_) (fun h => absurd eq h)
  refine W.widen (k := cells + 1) (n := slots + 40) (Nat.le_add_right _ _) (Nat.le_add_right _ _) ?_
  have hS2 : Sim (n + 1) (aCF x (xq (i + 1)) t (xq (i + 2)) (a_feed t (xq (i + 2)))) (aMF y (xq (i + 1)) t (xq (i + 2)) (a_feed t (xq (i + 2)))) := Sim_feed hs _ _ ht e1 e2
  exact kk x2 y2 H1 locs1 (hS2.j hP hP2) hL
set_option maxHeartbeats 400000 in
theorem lc_26 {p : Program} {l : Launch} {e : Env} {s : State} {m : MethodId} {below : List Frame} {meth : Method} {c : Code} {b Ln : Nat} {xq : Nat → Int32} {D : va_G} {σ : Nat × Nat × Value} {z : Value × Value} {L LM : Nat → Nat} {x : cst} {y : mst} {n i cells slots : Nat} {H : Heap} {locs : List Loc} {ls : Array Slot} {Q : State → Prop} (G : LG p s m meth c b Ln xq D σ z) (hs : Sim n x y) (hn : n ≤ 63) (hL : LW D L LM s x y H locs) (hl : lv_has ls 4 [(0, .ref b), (1, .ref (L 44)), (2, .ref (LM 0)), (3, .int (nI i))]) (hi : i + 6 ≤ Ln) (hcs : cells ≤ 1000 ∧ slots ≤ 100000) (kk : ∀ (x' : cst) (y' : mst) (H1 : Heap) (locs1 : List Loc), Sim (n + 1) x' y' → LW D L LM s x' y' H1 locs1 → W p l e room_1 s m #[Value.ref b] below meth c H1 locs1 (cells + 1) (slots + 40) Q (F0 m 1399 ls [])) : W p l e room_1 s m #[Value.ref b] below meth c H locs cells slots Q (F0 m 1027 ls []) := by
  obtain ⟨⟨hx, hb, hr, hml, hown, hts0, hXs, hbl, hlocks, hgv⟩, hK, hSS, hσ, hX, hLn⟩ := G
  have hts : ∀ w ∈ lw_all, w.before #[Value.ref b] s = true := fun w h => hts0 w (lw_all_tbl h)
  have F : CallFix p m c code 4 s #[Value.ref b] lw_all R_law := ⟨hx, hb, hml, hown, hts⟩
  have e0 := hs.1.1
  have hO := hs.1.2.1
  have hd := hs.1.2.d (by omega)
  have hg := hs.1.2.2.1
  have hOM : wOk (y.1 0) := by rw [← e0]; exact hO
  have hdM : isN (y.1 0 1 2) 10000 := by rw [← e0]; exact hd
  have hgM : y.1 0 1 1 = 0 := by rw [← e0]; exact hg
  obtain ⟨t, ht, e1, e2⟩ := hs.2.2.1
  obtain ⟨hsh, hmk, hR⟩ := hs.2.2.2.2.2
  refine lv_aload_n hx hb dL_law_1027 rfl (lv_at hl 1 rfl) ?_
  refine L_C (va_Run.mono (k_V (As := []) (rest := []) F (k_X0_wipe x) (cwV 0 hts (lw_V q939 q940 q941 q91 q942) rfl rfl rfl (by decide +kernel) ⟨Nat.le_of_ble_eq_true rfl, Nat.le_of_ble_eq_true rfl⟩) hL.1 hK (hw.recv hL.1 hK cf_main rfl) rfl hl.1 rfl (Nat.le_of_ble_eq_true rfl) dL_law_1028 ⟨show cells ≤ 814468 by omega, show slots ≤ 6652701 by omega⟩) nQ_C) hL (fun x2 H1 locs1 hP hL => ?_)
  refine W.widen (k := cells) (n := slots) (Nat.le_refl _) (Nat.le_refl _) ?_
  show W p l e room_1 s m #[Value.ref b] below meth c H1 locs1 cells slots Q (F0 m 1031 ls [.int (x.2.1 0 0)])
  refine lv_aload_n hx hb dL_law_1031 rfl (lv_at hl 2 rfl) ?_
  refine L_M (va_Run.mono (k_V (As := []) (rest := [.int (x.2.1 0 0)]) F (k_X13_wipe y) (cwV 0 hts (lw_V q1493 q1494 q1495 q107 q1496) rfl rfl rfl (by decide +kernel) ⟨Nat.le_of_ble_eq_true rfl, Nat.le_of_ble_eq_true rfl⟩) hL.2.1 hK (hw.recv hL.2.1 hK mf_main rfl) rfl hl.1 rfl (Nat.le_of_ble_eq_true rfl) dL_law_1032 ⟨show cells ≤ 814468 by omega, show slots ≤ 6652701 by omega⟩) nQ_M) hL (fun y2 H1 locs1 hP2 hL => ?_)
  show W p l e room_1 s m #[Value.ref b] below meth c H1 locs1 cells slots Q (F0 m 1035 ls [.int (y.2.1 0 1), .int (x.2.1 0 0)])
  have eq : (x.2.1 0 0 : Int32) = y.2.1 0 1 := by rw [e1, e2]
  refine lv_icmp_eq (tgt := 1399) hx hb dL_law_1035 (by decide) (fun _ => ?_) (fun h => absurd eq h)
  refine W.widen (k := cells + 1) (n := slots + 40) (Nat.le_add_right _ _) (Nat.le_add_right _ _) ?_
  have hS2 : Sim (n + 1) (xr x 0 0 0) (yr y 0 1 0) := Sim_wipe hs
  exact kk x2 y2 H1 locs1 (hS2.j hP hP2) hL
set_option maxHeartbeats 400000 in
theorem lc_27 {p : Program} {l : Launch} {e : Env} {s : State} {m : MethodId} {below : List Frame} {meth : Method} {c : Code} {b Ln : Nat} {xq : Nat → Int32} {D : va_G} {σ : Nat × Nat × Value} {z : Value × Value} {L LM : Nat → Nat} {x : cst} {y : mst} {n i cells slots : Nat} {H : Heap} {locs : List Loc} {ls : Array Slot} {Q : State → Prop} (G : LG p s m meth c b Ln xq D σ z) (hs : Sim n x y) (hn : n ≤ 63) (hL : LW D L LM s x y H locs) (hl : lv_has ls 4 [(0, .ref b), (1, .ref (L 44)), (2, .ref (LM 0)), (3, .int (nI i))]) (hi : i + 6 ≤ Ln) (hcs : cells ≤ 1000 ∧ slots ≤ 100000) (kk : ∀ (x' : cst) (y' : mst) (H1 : Heap) (locs1 : List Loc), Sim (n + 1) x' y' → LW D L LM s x' y' H1 locs1 → W p l e room_1 s m #[Value.ref b] below meth c H1 locs1 (cells + 1) (slots + 40) Q (F0 m 1399 ls [])) : W p l e room_1 s m #[Value.ref b] below meth c H locs cells slots Q (F0 m 1040 ls []) := by
  obtain ⟨⟨hx, hb, hr, hml, hown, hts0, hXs, hbl, hlocks, hgv⟩, hK, hSS, hσ, hX, hLn⟩ := G
  have hts : ∀ w ∈ lw_all, w.before #[Value.ref b] s = true := fun w h => hts0 w (lw_all_tbl h)
  have F : CallFix p m c code 4 s #[Value.ref b] lw_all R_law := ⟨hx, hb, hml, hown, hts⟩
  have e0 := hs.1.1
  have hO := hs.1.2.1
  have hd := hs.1.2.d (by omega)
  have hg := hs.1.2.2.1
  have hOM : wOk (y.1 0) := by rw [← e0]; exact hO
  have hdM : isN (y.1 0 1 2) 10000 := by rw [← e0]; exact hd
  have hgM : y.1 0 1 1 = 0 := by rw [← e0]; exact hg
  obtain ⟨t, ht, e1, e2⟩ := hs.2.2.1
  obtain ⟨hsh, hmk, hR⟩ := hs.2.2.2.2.2
  have htM : tpOk (y.2.1 2) := by rw [← hs.2.2.2.1.1]; exact hs.2.2.2.1.2
  obtain ⟨a1, j1⟩ := nI_sur (x.2.1 1 1)
  obtain ⟨b1, j2⟩ := nI_sur (x.2.1 1 2)
  obtain ⟨k1, j3⟩ := nI_sur (x.2.1 1 3)
  obtain ⟨v1, j4⟩ := nI_sur (x.2.1 1 4)
  obtain ⟨a2, m1⟩ := nI_sur (y.2.1 0 2)
  obtain ⟨b2, m2⟩ := nI_sur (y.2.1 0 4)
  obtain ⟨k2, m3⟩ := nI_sur (y.2.1 0 3)
  obtain ⟨v2, m4⟩ := nL_sur y.2.2
  obtain ⟨f2, m5⟩ : ∃ f2 : Option Nat, y.2.1 0 5 = fI f2 := by
    obtain ⟨j, hj⟩ := nI_sur (y.2.1 0 5)
    exact ⟨some j, hj⟩
  refine lv_aload_n hx hb dL_law_1040 rfl (lv_at hl 1 rfl) ?_
  refine L_C (va_Run.mono (k_VWg (n := 0) (As := []) (rest := []) F (k_X0_text x hO t ht e1 hs.2.2.2.1.2 hσ a1 b1 k1 v1 j1 j2 j3 j4) ⟨rfl, rfl⟩ ⟨Nat.le_of_ble_eq_true rfl, Nat.le_of_ble_eq_true rfl⟩ q943 q944 q945 q91 q946 (by decide +kernel) pS_blind (pS_law hL hK hSS) (hw.recv hL.1 hK cf_main rfl) rfl hl.1 rfl (Nat.le_of_ble_eq_true rfl) dL_law_1041 ⟨show cells ≤ 814468 by omega, show slots ≤ 6652701 by omega⟩) jQ_C) hL (fun x2 H1 locs1 hP hL => ?_)
  refine W.widen (k := cells) (n := slots) (Nat.le_refl _) (Nat.le_refl _) ?_
  show W p l e room_1 s m #[Value.ref b] below meth c H1 locs1 cells slots Q (F0 m 1044 ls [.int (txR (txtP (x.2.1 2) t (x.1 0, a1, b1, k1, v1)))])
  refine lv_aload_n hx hb dL_law_1044 rfl (lv_at hl 2 rfl) ?_
  refine L_M (va_Run.mono (k_V (As := []) (rest := [.int (txR (txtP (x.2.1 2) t (x.1 0, a1, b1, k1, v1)))]) F (k_X13_text y hOM t ht e2 htM a2 b2 k2 v2 f2 m1 m2 m3 m4 m5) (cwV 0 hts (lw_V q1497 q1498 q1499 q107 q1500) rfl rfl rfl (by decide +kernel) ⟨Nat.le_of_ble_eq_true rfl, Nat.le_of_ble_eq_true rfl⟩) hL.2.1 hK (hw.recv hL.2.1 hK mf_main rfl) rfl hl.1 rfl (Nat.le_of_ble_eq_true rfl) dL_law_1045 ⟨show cells ≤ 814468 by omega, show slots ≤ 6652701 by omega⟩) jQ_M) hL (fun y2 H1 locs1 hP2 hL => ?_)
  show W p l e room_1 s m #[Value.ref b] below meth c H1 locs1 cells slots Q (F0 m 1048 ls [.int (tyR (isM (y.2.1 2) t (y.1 0, a2, b2, k2, v2, f2))), .int (txR (txtP (x.2.1 2) t (x.1 0, a1, b1, k1, v1)))])
  have eq : (txR (txtP (x.2.1 2) t (x.1 0, a1, b1, k1, v1)) : Int32) = tyR (isM (y.2.1 2) t (y.1 0, a2, b2, k2, v2, f2)) := (Sim_text hs ht a1 b1 k1 v1 a2 b2 k2 v2 f2).2
  refine lv_icmp_eq (tgt := 1399) hx hb dL_law_1048 (by decide) (fun _ => ?_) (fun h => absurd eq h)
  refine W.widen (k := cells + 1) (n := slots + 40) (Nat.le_add_right _ _) (Nat.le_add_right _ _) ?_
  have hS2 : Sim (n + 1) (txC x (txtP (x.2.1 2) t (x.1 0, a1, b1, k1, v1))) (tyC y (isM (y.2.1 2) t (y.1 0, a2, b2, k2, v2, f2))) := (Sim_text hs ht a1 b1 k1 v1 a2 b2 k2 v2 f2).1
  exact kk x2 y2 H1 locs1 (hS2.j hP hP2) hL
