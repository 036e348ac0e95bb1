/-! the law: its cases 0 to 13 -/
set_option maxHeartbeats 400000 in
theorem lc_0 {p : Program} {l : Launch} {e : Env} {s : State} {m : MethodId} {below : List Frame} {meth : Method} {c : Code} {b Ln : Nat} {xq : Nat → Int32} {D : va_G} {σ : Nat × Nat × Value} {z : Value × Value} {L LM : Nat → Nat} {x : cst} {y : mst} {n i cells slots : Nat} {H : Heap} {locs : List Loc} {ls : Array Slot} {Q : State → Prop} (G : LG p s m meth c b Ln xq D σ z) (hs : Sim n x y) (hn : n ≤ 63) (hL : LW D L LM s x y H locs) (hl : lv_has ls 4 [(0, .ref b), (1, .ref (L 44)), (2, .ref (LM 0)), (3, .int (nI i))]) (hi : i + 6 ≤ Ln) (hcs : cells ≤ 1000 ∧ slots ≤ 100000) (kk : ∀ (x' : cst) (y' : mst) (H1 : Heap) (locs1 : List Loc), Sim (n + 1) x' y' → LW D L LM s x' y' H1 locs1 → W p l e room_1 s m #[Value.ref b] below meth c H1 locs1 (cells + 1) (slots + 40) Q (F0 m 1399 ls [])) : W p l e room_1 s m #[Value.ref b] below meth c H locs cells slots Q (F0 m 208 ls []) := by
  obtain ⟨⟨hx, hb, hr, hml, hown, hts0, hXs, hbl, hlocks, hgv⟩, hK, hSS, hσ, hX, hLn⟩ := G
  have hts : ∀ w ∈ lw_all, w.before #[Value.ref b] s = true := fun w h => hts0 w (lw_all_tbl h)
  have F : CallFix p m c code 4 s #[Value.ref b] lw_all R_law := ⟨hx, hb, hml, hown, hts⟩
  have e0 := hs.1.1
  have hO := hs.1.2.1
  have hd := hs.1.2.d (by omega)
  have hg := hs.1.2.2.1
  have hOM : wOk (y.1 0) := by rw [← e0]; exact hO
  have hdM : isN (y.1 0 1 2) 10000 := by rw [← e0]; exact hd
  have hgM : y.1 0 1 1 = 0 := by rw [← e0]; exact hg
  obtain ⟨t, ht, e1, e2⟩ := hs.2.2.1
  obtain ⟨hsh, hmk, hR⟩ := hs.2.2.2.2.2
  refine lv_aload_n hx hb dL_law_208 rfl (lv_at hl 1 rfl) ?_
  refine lv_aload_n hx hb dL_law_209 rfl (lv_at hl 0 rfl) ?_
  refine lv_iload_n hx hb dL_law_210 rfl (lv_at hl 3 rfl) ?_
  refine lv_iconst (v := 1) hx hb dL_law_211 (by decide) ?_
  refine lv_iadd hx hb dL_law_212 ?_
  refine n_sld (k := i + 1) hx hb hXs hbl hLn hL (na_add (b := 1) rfl rfl) (by omega) dL_law_213 ?_
  refine lv_aload_n hx hb dL_law_214 rfl (lv_at hl 0 rfl) ?_
  refine lv_iload_n hx hb dL_law_215 rfl (lv_at hl 3 rfl) ?_
  refine lv_iconst (v := 2) hx hb dL_law_216 (by decide) ?_
  refine lv_iadd hx hb dL_law_217 ?_
  refine n_sld (k := i + 2) hx hb hXs hbl hLn hL (na_add (b := 2) rfl rfl) (by omega) dL_law_218 ?_
  refine L_C (va_Run.mono (k_V (As := [.int (xq (i + 1)), .int (xq (i + 2))]) (rest := []) F (k_X0_say x  (xq (i + 1)) (xq (i + 2))) (cwV 2 hts (lw_V q432 q433 q434 q91 q435) rfl rfl rfl (by decide +kernel) ⟨Nat.le_of_ble_eq_true rfl, Nat.le_of_ble_eq_true rfl⟩) hL.1 hK (hw.recv hL.1 hK cf_main rfl) rfl hl.1 rfl (Nat.le_of_ble_eq_true rfl) dL_law_219 ⟨show cells ≤ 814468 by omega, show slots ≤ 6652701 by omega⟩) nQ_C) hL (fun x2 H1 locs1 hP hL => ?_)
  refine W.widen (k := cells) (n := slots) (Nat.le_refl _) (Nat.le_refl _) ?_
  show W p l e room_1 s m #[Value.ref b] below meth c H1 locs1 cells slots Q (F0 m 222 ls [.int (aR (a_say (x.1 0) (xq (i + 1)) (xq (i + 2))))])
  refine lv_aload_n hx hb dL_law_222 rfl (lv_at hl 2 rfl) ?_
  refine lv_aload_n hx hb dL_law_223 rfl (lv_at hl 0 rfl) ?_
  refine lv_iload_n hx hb dL_law_224 rfl (lv_at hl 3 rfl) ?_
  refine lv_iconst (v := 1) hx hb dL_law_225 (by decide) ?_
  refine lv_iadd hx hb dL_law_226 ?_
  refine n_sld (k := i + 1) hx hb hXs hbl hLn hL (na_add (b := 1) rfl rfl) (by omega) dL_law_227 ?_
  refine lv_aload_n hx hb dL_law_228 rfl (lv_at hl 0 rfl) ?_
  refine lv_iload_n hx hb dL_law_229 rfl (lv_at hl 3 rfl) ?_
  refine lv_iconst (v := 2) hx hb dL_law_230 (by decide) ?_
  refine lv_iadd hx hb dL_law_231 ?_
  refine n_sld (k := i + 2) hx hb hXs hbl hLn hL (na_add (b := 2) rfl rfl) (by omega) dL_law_232 ?_
  refine L_M (va_Run.mono (k_V (As := [.int (xq (i + 1)), .int (xq (i + 2))]) (rest := [.int (aR (a_say (x.1 0) (xq (i + 1)) (xq (i + 2))))]) F (k_X13_say y  (xq (i + 1)) (xq (i + 2))) (cwV 2 hts (lw_V q1219 q1220 q1221 q107 q1222) rfl rfl rfl (by decide +kernel) ⟨Nat.le_of_ble_eq_true rfl, Nat.le_of_ble_eq_true rfl⟩) hL.2.1 hK (hw.recv hL.2.1 hK mf_main rfl) rfl hl.1 rfl (Nat.le_of_ble_eq_true rfl) dL_law_233 ⟨show cells ≤ 814468 by omega, show slots ≤ 6652701 by omega⟩) nQ_M) hL (fun y2 H1 locs1 hP2 hL => ?_)
  show W p l e room_1 s m #[Value.ref b] below meth c H1 locs1 cells slots Q (F0 m 236 ls [.int (aR (a_say (y.1 0) (xq (i + 1)) (xq (i + 2)))), .int (aR (a_say (x.1 0) (xq (i + 1)) (xq (i + 2))))])
  have eq : (aR (a_say (x.1 0) (xq (i + 1)) (xq (i + 2))) : Int32) = aR (a_say (y.1 0) (xq (i + 1)) (xq (i + 2))) := by rw [e0]
  refine lv_icmp_eq (tgt := 1399) hx hb dL_law_236 (by decide) (fun _ => ?_) (fun h => absurd eq h)
  refine W.widen (k := cells + 1) (n := slots + 40) (Nat.le_add_right _ _) (Nat.le_add_right _ _) ?_
  have hS2 : Sim (n + 1) (aC x (a_say (x.1 0) (xq (i + 1)) (xq (i + 2)))) (aM y (a_say (y.1 0) (xq (i + 1)) (xq (i + 2)))) := by rw [← e0]; exact Sim_act hs (Nat.le_succ n) _ (WS_say (hs.1.2.mono (Nat.le_succ n)) _ _)
  exact kk x2 y2 H1 locs1 (hS2.j hP hP2) hL
set_option maxHeartbeats 400000 in
theorem lc_1 {p : Program} {l : Launch} {e : Env} {s : State} {m : MethodId} {below : List Frame} {meth : Method} {c : Code} {b Ln : Nat} {xq : Nat → Int32} {D : va_G} {σ : Nat × Nat × Value} {z : Value × Value} {L LM : Nat → Nat} {x : cst} {y : mst} {n i cells slots : Nat} {H : Heap} {locs : List Loc} {ls : Array Slot} {Q : State → Prop} (G : LG p s m meth c b Ln xq D σ z) (hs : Sim n x y) (hn : n ≤ 63) (hL : LW D L LM s x y H locs) (hl : lv_has ls 4 [(0, .ref b), (1, .ref (L 44)), (2, .ref (LM 0)), (3, .int (nI i))]) (hi : i + 6 ≤ Ln) (hcs : cells ≤ 1000 ∧ slots ≤ 100000) (kk : ∀ (x' : cst) (y' : mst) (H1 : Heap) (locs1 : List Loc), Sim (n + 1) x' y' → LW D L LM s x' y' H1 locs1 → W p l e room_1 s m #[Value.ref b] below meth c H1 locs1 (cells + 1) (slots + 40) Q (F0 m 1399 ls [])) : W p l e room_1 s m #[Value.ref b] below meth c H locs cells slots Q (F0 m 241 ls []) := by
  obtain ⟨⟨hx, hb, hr, hml, hown, hts0, hXs, hbl, hlocks, hgv⟩, hK, hSS, hσ, hX, hLn⟩ := G
  have hts : ∀ w ∈ lw_all, w.before #[Value.ref b] s = true := fun w h => hts0 w (lw_all_tbl h)
  have F : CallFix p m c code 4 s #[Value.ref b] lw_all R_law := ⟨hx, hb, hml, hown, hts⟩
  have e0 := hs.1.1
  have hO := hs.1.2.1
  have hd := hs.1.2.d (by omega)
  have hg := hs.1.2.2.1
  have hOM : wOk (y.1 0) := by rw [← e0]; exact hO
  have hdM : isN (y.1 0 1 2) 10000 := by rw [← e0]; exact hd
  have hgM : y.1 0 1 1 = 0 := by rw [← e0]; exact hg
  obtain ⟨t, ht, e1, e2⟩ := hs.2.2.1
  obtain ⟨hsh, hmk, hR⟩ := hs.2.2.2.2.2
  refine lv_aload_n hx hb dL_law_241 rfl (lv_at hl 1 rfl) ?_
  refine lv_aload_n hx hb dL_law_242 rfl (lv_at hl 0 rfl) ?_
  refine lv_iload_n hx hb dL_law_243 rfl (lv_at hl 3 rfl) ?_
  refine lv_iconst (v := 1) hx hb dL_law_244 (by decide) ?_
  refine lv_iadd hx hb dL_law_245 ?_
  refine n_sld (k := i + 1) hx hb hXs hbl hLn hL (na_add (b := 1) rfl rfl) (by omega) dL_law_246 ?_
  refine L_C (va_Run.mono (k_V (As := [.int (xq (i + 1))]) (rest := []) F (k_X0_said x  (xq (i + 1))) (cwV 1 hts (lw_V q462 q463 q464 q91 q465) rfl rfl rfl (by decide +kernel) ⟨Nat.le_of_ble_eq_true rfl, Nat.le_of_ble_eq_true rfl⟩) hL.1 hK (hw.recv hL.1 hK cf_main rfl) rfl hl.1 rfl (Nat.le_of_ble_eq_true rfl) dL_law_247 ⟨show cells ≤ 814468 by omega, show slots ≤ 6652701 by omega⟩) nQ_C) hL (fun x2 H1 locs1 hP hL => ?_)
  refine W.widen (k := cells) (n := slots) (Nat.le_refl _) (Nat.le_refl _) ?_
  show W p l e room_1 s m #[Value.ref b] below meth c H1 locs1 cells slots Q (F0 m 250 ls [.int (aR (a_said (x.1 0) (xq (i + 1))))])
  refine lv_aload_n hx hb dL_law_250 rfl (lv_at hl 2 rfl) ?_
  refine lv_aload_n hx hb dL_law_251 rfl (lv_at hl 0 rfl) ?_
  refine lv_iload_n hx hb dL_law_252 rfl (lv_at hl 3 rfl) ?_
  refine lv_iconst (v := 1) hx hb dL_law_253 (by decide) ?_
  refine lv_iadd hx hb dL_law_254 ?_
  refine n_sld (k := i + 1) hx hb hXs hbl hLn hL (na_add (b := 1) rfl rfl) (by omega) dL_law_255 ?_
  refine L_M (va_Run.mono (k_V (As := [.int (xq (i + 1))]) (rest := [.int (aR (a_said (x.1 0) (xq (i + 1))))]) F (k_X13_said y  (xq (i + 1))) (cwV 1 hts (lw_V q1243 q1244 q1245 q107 q1246) rfl rfl rfl (by decide +kernel) ⟨Nat.le_of_ble_eq_true rfl, Nat.le_of_ble_eq_true rfl⟩) hL.2.1 hK (hw.recv hL.2.1 hK mf_main rfl) rfl hl.1 rfl (Nat.le_of_ble_eq_true rfl) dL_law_256 ⟨show cells ≤ 814468 by omega, show slots ≤ 6652701 by omega⟩) nQ_M) hL (fun y2 H1 locs1 hP2 hL => ?_)
  show W p l e room_1 s m #[Value.ref b] below meth c H1 locs1 cells slots Q (F0 m 259 ls [.int (aR (a_said (y.1 0) (xq (i + 1)))), .int (aR (a_said (x.1 0) (xq (i + 1))))])
  have eq : (aR (a_said (x.1 0) (xq (i + 1))) : Int32) = aR (a_said (y.1 0) (xq (i + 1))) := by rw [e0]
  refine lv_icmp_eq (tgt := 1399) hx hb dL_law_259 (by decide) (fun _ => ?_) (fun h => absurd eq h)
  refine W.widen (k := cells + 1) (n := slots + 40) (Nat.le_add_right _ _) (Nat.le_add_right _ _) ?_
  have hS2 : Sim (n + 1) (aC x (a_said (x.1 0) (xq (i + 1)))) (aM y (a_said (y.1 0) (xq (i + 1)))) := by rw [← e0]; exact Sim_rd hs _ (rd_said _ _)
  exact kk x2 y2 H1 locs1 (hS2.j hP hP2) hL
set_option maxHeartbeats 400000 in
theorem lc_2 {p : Program} {l : Launch} {e : Env} {s : State} {m : MethodId} {below : List Frame} {meth : Method} {c : Code} {b Ln : Nat} {xq : Nat → Int32} {D : va_G} {σ : Nat × Nat × Value} {z : Value × Value} {L LM : Nat → Nat} {x : cst} {y : mst} {n i cells slots : Nat} {H : Heap} {locs : List Loc} {ls : Array Slot} {Q : State → Prop} (G : LG p s m meth c b Ln xq D σ z) (hs : Sim n x y) (hn : n ≤ 63) (hL : LW D L LM s x y H locs) (hl : lv_has ls 4 [(0, .ref b), (1, .ref (L 44)), (2, .ref (LM 0)), (3, .int (nI i))]) (hi : i + 6 ≤ Ln) (hcs : cells ≤ 1000 ∧ slots ≤ 100000) (kk : ∀ (x' : cst) (y' : mst) (H1 : Heap) (locs1 : List Loc), Sim (n + 1) x' y' → LW D L LM s x' y' H1 locs1 → W p l e room_1 s m #[Value.ref b] below meth c H1 locs1 (cells + 1) (slots + 40) Q (F0 m 1399 ls [])) : W p l e room_1 s m #[Value.ref b] below meth c H locs cells slots Q (F0 m 264 ls []) := by
  obtain ⟨⟨hx, hb, hr, hml, hown, hts0, hXs, hbl, hlocks, hgv⟩, hK, hSS, hσ, hX, hLn⟩ := G
  have hts : ∀ w ∈ lw_all, w.before #[Value.ref b] s = true := fun w h => hts0 w (lw_all_tbl h)
  have F : CallFix p m c code 4 s #[Value.ref b] lw_all R_law := ⟨hx, hb, hml, hown, hts⟩
  have e0 := hs.1.1
  have hO := hs.1.2.1
  have hd := hs.1.2.d (by omega)
  have hg := hs.1.2.2.1
  have hOM : wOk (y.1 0) := by rw [← e0]; exact hO
  have hdM : isN (y.1 0 1 2) 10000 := by rw [← e0]; exact hd
  have hgM : y.1 0 1 1 = 0 := by rw [← e0]; exact hg
  obtain ⟨t, ht, e1, e2⟩ := hs.2.2.1
  obtain ⟨hsh, hmk, hR⟩ := hs.2.2.2.2.2
  refine lv_aload_n hx hb dL_law_264 rfl (lv_at hl 1 rfl) ?_
  refine lv_aload_n hx hb dL_law_265 rfl (lv_at hl 0 rfl) ?_
  refine lv_iload_n hx hb dL_law_266 rfl (lv_at hl 3 rfl) ?_
  refine lv_iconst (v := 1) hx hb dL_law_267 (by decide) ?_
  refine lv_iadd hx hb dL_law_268 ?_
  refine n_sld (k := i + 1) hx hb hXs hbl hLn hL (na_add (b := 1) rfl rfl) (by omega) dL_law_269 ?_
  refine lv_aload_n hx hb dL_law_270 rfl (lv_at hl 0 rfl) ?_
  refine lv_iload_n hx hb dL_law_271 rfl (lv_at hl 3 rfl) ?_
  refine lv_iconst (v := 2) hx hb dL_law_272 (by decide) ?_
  refine lv_iadd hx hb dL_law_273 ?_
  refine n_sld (k := i + 2) hx hb hXs hbl hLn hL (na_add (b := 2) rfl rfl) (by omega) dL_law_274 ?_
  refine L_C (va_Run.mono (k_V (As := [.int (xq (i + 1)), .int (xq (i + 2))]) (rest := []) F (k_X0_room x hO (xq (i + 1)) (xq (i + 2))) (cwV 2 hts (lw_V q466 q467 q468 q91 q469) rfl rfl rfl (by decide +kernel) ⟨Nat.le_of_ble_eq_true rfl, Nat.le_of_ble_eq_true rfl⟩) hL.1 hK (hw.recv hL.1 hK cf_main rfl) rfl hl.1 rfl (Nat.le_of_ble_eq_true rfl) dL_law_275 ⟨show cells ≤ 814468 by omega, show slots ≤ 6652701 by omega⟩) nQ_C) hL (fun x2 H1 locs1 hP hL => ?_)
  refine W.widen (k := cells) (n := slots) (Nat.le_refl _) (Nat.le_refl _) ?_
  show W p l e room_1 s m #[Value.ref b] below meth c H1 locs1 cells slots Q (F0 m 278 ls [.int (aR (a_room (x.1 0) (xq (i + 1)) (xq (i + 2))))])
  refine lv_aload_n hx hb dL_law_278 rfl (lv_at hl 2 rfl) ?_
  refine lv_aload_n hx hb dL_law_279 rfl (lv_at hl 0 rfl) ?_
  refine lv_iload_n hx hb dL_law_280 rfl (lv_at hl 3 rfl) ?_
  refine lv_iconst (v := 1) hx hb dL_law_281 (by decide) ?_
  refine lv_iadd hx hb dL_law_282 ?_
  refine n_sld (k := i + 1) hx hb hXs hbl hLn hL (na_add (b := 1) rfl rfl) (by omega) dL_law_283 ?_
  refine lv_aload_n hx hb dL_law_284 rfl (lv_at hl 0 rfl) ?_
  refine lv_iload_n hx hb dL_law_285 rfl (lv_at hl 3 rfl) ?_
  refine lv_iconst (v := 2) hx hb dL_law_286 (by decide) ?_
  refine lv_iadd hx hb dL_law_287 ?_
  refine n_sld (k := i + 2) hx hb hXs hbl hLn hL (na_add (b := 2) rfl rfl) (by omega) dL_law_288 ?_
  refine L_M (va_Run.mono (k_V (As := [.int (xq (i + 1)), .int (xq (i + 2))]) (rest := [.int (aR (a_room (x.1 0) (xq (i + 1)) (xq (i + 2))))]) F (k_X13_room y hOM (xq (i + 1)) (xq (i + 2))) (cwV 2 hts (lw_V q1247 q1248 q1249 q107 q1250) rfl rfl rfl (by decide +kernel) ⟨Nat.le_of_ble_eq_true rfl, Nat.le_of_ble_eq_true rfl⟩) hL.2.1 hK (hw.recv hL.2.1 hK mf_main rfl) rfl hl.1 rfl (Nat.le_of_ble_eq_true rfl) dL_law_289 ⟨show cells ≤ 814468 by omega, show slots ≤ 6652701 by omega⟩) nQ_M) hL (fun y2 H1 locs1 hP2 hL => ?_)
  show W p l e room_1 s m #[Value.ref b] below meth c H1 locs1 cells slots Q (F0 m 292 ls [.int (aR (a_room (y.1 0) (xq (i + 1)) (xq (i + 2)))), .int (aR (a_room (x.1 0) (xq (i + 1)) (xq (i + 2))))])
  have eq : (aR (a_room (x.1 0) (xq (i + 1)) (xq (i + 2))) : Int32) = aR (a_room (y.1 0) (xq (i + 1)) (xq (i + 2))) := by rw [e0]
  refine lv_icmp_eq (tgt := 1399) hx hb dL_law_292 (by decide) (fun _ => ?_) (fun h => absurd eq h)
  refine W.widen (k := cells + 1) (n := slots + 40) (Nat.le_add_right _ _) (Nat.le_add_right _ _) ?_
  have hS2 : Sim (n + 1) (aC x (a_room (x.1 0) (xq (i + 1)) (xq (i + 2)))) (aM y (a_room (y.1 0) (xq (i + 1)) (xq (i + 2)))) := by rw [← e0]; exact Sim_rd hs _ (rd_room _ _ _)
  exact kk x2 y2 H1 locs1 (hS2.j hP hP2) hL
set_option maxHeartbeats 400000 in
theorem lc_3 {p : Program} {l : Launch} {e : Env} {s : State} {m : MethodId} {below : List Frame} {meth : Method} {c : Code} {b Ln : Nat} {xq : Nat → Int32} {D : va_G} {σ : Nat × Nat × Value} {z : Value × Value} {L LM : Nat → Nat} {x : cst} {y : mst} {n i cells slots : Nat} {H : Heap} {locs : List Loc} {ls : Array Slot} {Q : State → Prop} (G : LG p s m meth c b Ln xq D σ z) (hs : Sim n x y) (hn : n ≤ 63) (hL : LW D L LM s x y H locs) (hl : lv_has ls 4 [(0, .ref b), (1, .ref (L 44)), (2, .ref (LM 0)), (3, .int (nI i))]) (hi : i + 6 ≤ Ln) (hcs : cells ≤ 1000 ∧ slots ≤ 100000) (kk : ∀ (x' : cst) (y' : mst) (H1 : Heap) (locs1 : List Loc), Sim (n + 1) x' y' → LW D L LM s x' y' H1 locs1 → W p l e room_1 s m #[Value.ref b] below meth c H1 locs1 (cells + 1) (slots + 40) Q (F0 m 1399 ls [])) : W p l e room_1 s m #[Value.ref b] below meth c H locs cells slots Q (F0 m 297 ls []) := by
  obtain ⟨⟨hx, hb, hr, hml, hown, hts0, hXs, hbl, hlocks, hgv⟩, hK, hSS, hσ, hX, hLn⟩ := G
  have hts : ∀ w ∈ lw_all, w.before #[Value.ref b] s = true := fun w h => hts0 w (lw_all_tbl h)
  have F : CallFix p m c code 4 s #[Value.ref b] lw_all R_law := ⟨hx, hb, hml, hown, hts⟩
  have e0 := hs.1.1
  have hO := hs.1.2.1
  have hd := hs.1.2.d (by omega)
  have hg := hs.1.2.2.1
  have hOM : wOk (y.1 0) := by rw [← e0]; exact hO
  have hdM : isN (y.1 0 1 2) 10000 := by rw [← e0]; exact hd
  have hgM : y.1 0 1 1 = 0 := by rw [← e0]; exact hg
  obtain ⟨t, ht, e1, e2⟩ := hs.2.2.1
  obtain ⟨hsh, hmk, hR⟩ := hs.2.2.2.2.2
  refine lv_aload_n hx hb dL_law_297 rfl (lv_at hl 1 rfl) ?_
  refine lv_aload_n hx hb dL_law_298 rfl (lv_at hl 0 rfl) ?_
  refine lv_iload_n hx hb dL_law_299 rfl (lv_at hl 3 rfl) ?_
  refine lv_iconst (v := 1) hx hb dL_law_300 (by decide) ?_
  refine lv_iadd hx hb dL_law_301 ?_
  refine n_sld (k := i + 1) hx hb hXs hbl hLn hL (na_add (b := 1) rfl rfl) (by omega) dL_law_302 ?_
  refine lv_aload_n hx hb dL_law_303 rfl (lv_at hl 0 rfl) ?_
  refine lv_iload_n hx hb dL_law_304 rfl (lv_at hl 3 rfl) ?_
  refine lv_iconst (v := 2) hx hb dL_law_305 (by decide) ?_
  refine lv_iadd hx hb dL_law_306 ?_
  refine n_sld (k := i + 2) hx hb hXs hbl hLn hL (na_add (b := 2) rfl rfl) (by omega) dL_law_307 ?_
  refine L_C (va_Run.mono (k_V (As := [.int (xq (i + 1)), .int (xq (i + 2))]) (rest := []) F (k_X0_glove x hO (xq (i + 1)) (xq (i + 2))) (cwV 2 hts (lw_V q528 q529 q530 q91 q531) rfl rfl rfl (by decide +kernel) ⟨Nat.le_of_ble_eq_true rfl, Nat.le_of_ble_eq_true rfl⟩) hL.1 hK (hw.recv hL.1 hK cf_main rfl) rfl hl.1 rfl (Nat.le_of_ble_eq_true rfl) dL_law_308 ⟨show cells ≤ 814468 by omega, show slots ≤ 6652701 by omega⟩) nQ_C) hL (fun x2 H1 locs1 hP hL => ?_)
  refine W.widen (k := cells) (n := slots) (Nat.le_refl _) (Nat.le_refl _) ?_
  show W p l e room_1 s m #[Value.ref b] below meth c H1 locs1 cells slots Q (F0 m 311 ls [.int (aR (a_glove (x.1 0) (xq (i + 1)) (xq (i + 2))))])
  refine lv_aload_n hx hb dL_law_311 rfl (lv_at hl 2 rfl) ?_
  refine lv_aload_n hx hb dL_law_312 rfl (lv_at hl 0 rfl) ?_
  refine lv_iload_n hx hb dL_law_313 rfl (lv_at hl 3 rfl) ?_
  refine lv_iconst (v := 1) hx hb dL_law_314 (by decide) ?_
  refine lv_iadd hx hb dL_law_315 ?_
  refine n_sld (k := i + 1) hx hb hXs hbl hLn hL (na_add (b := 1) rfl rfl) (by omega) dL_law_316 ?_
  refine lv_aload_n hx hb dL_law_317 rfl (lv_at hl 0 rfl) ?_
  refine lv_iload_n hx hb dL_law_318 rfl (lv_at hl 3 rfl) ?_
  refine lv_iconst (v := 2) hx hb dL_law_319 (by decide) ?_
  refine lv_iadd hx hb dL_law_320 ?_
  refine n_sld (k := i + 2) hx hb hXs hbl hLn hL (na_add (b := 2) rfl rfl) (by omega) dL_law_321 ?_
  refine L_M (va_Run.mono (k_V (As := [.int (xq (i + 1)), .int (xq (i + 2))]) (rest := [.int (aR (a_glove (x.1 0) (xq (i + 1)) (xq (i + 2))))]) F (k_X13_glove y hOM (xq (i + 1)) (xq (i + 2))) (cwV 2 hts (lw_V q1272 q1273 q1274 q107 q1275) rfl rfl rfl (by decide +kernel) ⟨Nat.le_of_ble_eq_true rfl, Nat.le_of_ble_eq_true rfl⟩) hL.2.1 hK (hw.recv hL.2.1 hK mf_main rfl) rfl hl.1 rfl (Nat.le_of_ble_eq_true rfl) dL_law_322 ⟨show cells ≤ 814468 by omega, show slots ≤ 6652701 by omega⟩) nQ_M) hL (fun y2 H1 locs1 hP2 hL => ?_)
  show W p l e room_1 s m #[Value.ref b] below meth c H1 locs1 cells slots Q (F0 m 325 ls [.int (aR (a_glove (y.1 0) (xq (i + 1)) (xq (i + 2)))), .int (aR (a_glove (x.1 0) (xq (i + 1)) (xq (i + 2))))])
  have eq : (aR (a_glove (x.1 0) (xq (i + 1)) (xq (i + 2))) : Int32) = aR (a_glove (y.1 0) (xq (i + 1)) (xq (i + 2))) := by rw [e0]
  refine lv_icmp_eq (tgt := 1399) hx hb dL_law_325 (by decide) (fun _ => ?_) (fun h => absurd eq h)
  refine W.widen (k := cells + 1) (n := slots + 40) (Nat.le_add_right _ _) (Nat.le_add_right _ _) ?_
  have hS2 : Sim (n + 1) (aC x (a_glove (x.1 0) (xq (i + 1)) (xq (i + 2)))) (aM y (a_glove (y.1 0) (xq (i + 1)) (xq (i + 2)))) := by rw [← e0]; exact Sim_act hs (Nat.le_succ n) _ (WS_glove (hs.1.2.mono (Nat.le_succ n)) _ _)
  exact kk x2 y2 H1 locs1 (hS2.j hP hP2) hL
set_option maxHeartbeats 400000 in
theorem lc_4 {p : Program} {l : Launch} {e : Env} {s : State} {m : MethodId} {below : List Frame} {meth : Method} {c : Code} {b Ln : Nat} {xq : Nat → Int32} {D : va_G} {σ : Nat × Nat × Value} {z : Value × Value} {L LM : Nat → Nat} {x : cst} {y : mst} {n i cells slots : Nat} {H : Heap} {locs : List Loc} {ls : Array Slot} {Q : State → Prop} (G : LG p s m meth c b Ln xq D σ z) (hs : Sim n x y) (hn : n ≤ 63) (hL : LW D L LM s x y H locs) (hl : lv_has ls 4 [(0, .ref b), (1, .ref (L 44)), (2, .ref (LM 0)), (3, .int (nI i))]) (hi : i + 6 ≤ Ln) (hcs : cells ≤ 1000 ∧ slots ≤ 100000) (kk : ∀ (x' : cst) (y' : mst) (H1 : Heap) (locs1 : List Loc), Sim (n + 1) x' y' → LW D L LM s x' y' H1 locs1 → W p l e room_1 s m #[Value.ref b] below meth c H1 locs1 (cells + 1) (slots + 40) Q (F0 m 1399 ls [])) : W p l e room_1 s m #[Value.ref b] below meth c H locs cells slots Q (F0 m 330 ls []) := by
  obtain ⟨⟨hx, hb, hr, hml, hown, hts0, hXs, hbl, hlocks, hgv⟩, hK, hSS, hσ, hX, hLn⟩ := G
  have hts : ∀ w ∈ lw_all, w.before #[Value.ref b] s = true := fun w h => hts0 w (lw_all_tbl h)
  have F : CallFix p m c code 4 s #[Value.ref b] lw_all R_law := ⟨hx, hb, hml, hown, hts⟩
  have e0 := hs.1.1
  have hO := hs.1.2.1
  have hd := hs.1.2.d (by omega)
  have hg := hs.1.2.2.1
  have hOM : wOk (y.1 0) := by rw [← e0]; exact hO
  have hdM : isN (y.1 0 1 2) 10000 := by rw [← e0]; exact hd
  have hgM : y.1 0 1 1 = 0 := by rw [← e0]; exact hg
  obtain ⟨t, ht, e1, e2⟩ := hs.2.2.1
  obtain ⟨hsh, hmk, hR⟩ := hs.2.2.2.2.2
  refine lv_aload_n hx hb dL_law_330 rfl (lv_at hl 1 rfl) ?_
  refine lv_aload_n hx hb dL_law_331 rfl (lv_at hl 0 rfl) ?_
  refine lv_iload_n hx hb dL_law_332 rfl (lv_at hl 3 rfl) ?_
  refine lv_iconst (v := 1) hx hb dL_law_333 (by decide) ?_
  refine lv_iadd hx hb dL_law_334 ?_
  refine n_sld (k := i + 1) hx hb hXs hbl hLn hL (na_add (b := 1) rfl rfl) (by omega) dL_law_335 ?_
  refine lv_aload_n hx hb dL_law_336 rfl (lv_at hl 0 rfl) ?_
  refine lv_iload_n hx hb dL_law_337 rfl (lv_at hl 3 rfl) ?_
  refine lv_iconst (v := 2) hx hb dL_law_338 (by decide) ?_
  refine lv_iadd hx hb dL_law_339 ?_
  refine n_sld (k := i + 2) hx hb hXs hbl hLn hL (na_add (b := 2) rfl rfl) (by omega) dL_law_340 ?_
  refine L_C (va_Run.mono (k_V (As := [.int (xq (i + 1)), .int (xq (i + 2))]) (rest := []) F (k_X0_of x hO (xq (i + 1)) (xq (i + 2))) (cwV 2 hts (lw_V q539 q540 q541 q91 q542) rfl rfl rfl (by decide +kernel) ⟨Nat.le_of_ble_eq_true rfl, Nat.le_of_ble_eq_true rfl⟩) hL.1 hK (hw.recv hL.1 hK cf_main rfl) rfl hl.1 rfl (Nat.le_of_ble_eq_true rfl) dL_law_341 ⟨show cells ≤ 814468 by omega, show slots ≤ 6652701 by omega⟩) nQ_C) hL (fun x2 H1 locs1 hP hL => ?_)
  refine W.widen (k := cells) (n := slots) (Nat.le_refl _) (Nat.le_refl _) ?_
  show W p l e room_1 s m #[Value.ref b] below meth c H1 locs1 cells slots Q (F0 m 344 ls [.int (aR (a_of (x.1 0) (xq (i + 1)) (xq (i + 2))))])
  refine lv_aload_n hx hb dL_law_344 rfl (lv_at hl 2 rfl) ?_
  refine lv_aload_n hx hb dL_law_345 rfl (lv_at hl 0 rfl) ?_
  refine lv_iload_n hx hb dL_law_346 rfl (lv_at hl 3 rfl) ?_
  refine lv_iconst (v := 1) hx hb dL_law_347 (by decide) ?_
  refine lv_iadd hx hb dL_law_348 ?_
  refine n_sld (k := i + 1) hx hb hXs hbl hLn hL (na_add (b := 1) rfl rfl) (by omega) dL_law_349 ?_
  refine lv_aload_n hx hb dL_law_350 rfl (lv_at hl 0 rfl) ?_
  refine lv_iload_n hx hb dL_law_351 rfl (lv_at hl 3 rfl) ?_
  refine lv_iconst (v := 2) hx hb dL_law_352 (by decide) ?_
  refine lv_iadd hx hb dL_law_353 ?_
  refine n_sld (k := i + 2) hx hb hXs hbl hLn hL (na_add (b := 2) rfl rfl) (by omega) dL_law_354 ?_
  refine L_M (va_Run.mono (k_V (As := [.int (xq (i + 1)), .int (xq (i + 2))]) (rest := [.int (aR (a_of (x.1 0) (xq (i + 1)) (xq (i + 2))))]) F (k_X13_of y hOM (xq (i + 1)) (xq (i + 2))) (cwV 2 hts (lw_V q1285 q1286 q1287 q107 q1288) rfl rfl rfl (by decide +kernel) ⟨Nat.le_of_ble_eq_true rfl, Nat.le_of_ble_eq_true rfl⟩) hL.2.1 hK (hw.recv hL.2.1 hK mf_main rfl) rfl hl.1 rfl (Nat.le_of_ble_eq_true rfl) dL_law_355 ⟨show cells ≤ 814468 by omega, show slots ≤ 6652701 by omega⟩) nQ_M) hL (fun y2 H1 locs1 hP2 hL => ?_)
  show W p l e room_1 s m #[Value.ref b] below meth c H1 locs1 cells slots Q (F0 m 358 ls [.int (aR (a_of (y.1 0) (xq (i + 1)) (xq (i + 2)))), .int (aR (a_of (x.1 0) (xq (i + 1)) (xq (i + 2))))])
  have eq : (aR (a_of (x.1 0) (xq (i + 1)) (xq (i + 2))) : Int32) = aR (a_of (y.1 0) (xq (i + 1)) (xq (i + 2))) := by rw [e0]
  refine lv_icmp_eq (tgt := 1399) hx hb dL_law_358 (by decide) (fun _ => ?_) (fun h => absurd eq h)
  refine W.widen (k := cells + 1) (n := slots + 40) (Nat.le_add_right _ _) (Nat.le_add_right _ _) ?_
  have hS2 : Sim (n + 1) (aC x (a_of (x.1 0) (xq (i + 1)) (xq (i + 2)))) (aM y (a_of (y.1 0) (xq (i + 1)) (xq (i + 2)))) := by rw [← e0]; exact Sim_rd hs _ (rd_of _ _ _)
  exact kk x2 y2 H1 locs1 (hS2.j hP hP2) hL
set_option maxHeartbeats 400000 in
theorem lc_5 {p : Program} {l : Launch} {e : Env} {s : State} {m : MethodId} {below : List Frame} {meth : Method} {c : Code} {b Ln : Nat} {xq : Nat → Int32} {D : va_G} {σ : Nat × Nat × Value} {z : Value × Value} {L LM : Nat → Nat} {x : cst} {y : mst} {n i cells slots : Nat} {H : Heap} {locs : List Loc} {ls : Array Slot} {Q : State → Prop} (G : LG p s m meth c b Ln xq D σ z) (hs : Sim n x y) (hn : n ≤ 63) (hL : LW D L LM s x y H locs) (hl : lv_has ls 4 [(0, .ref b), (1, .ref (L 44)), (2, .ref (LM 0)), (3, .int (nI i))]) (hi : i + 6 ≤ Ln) (hcs : cells ≤ 1000 ∧ slots ≤ 100000) (kk : ∀ (x' : cst) (y' : mst) (H1 : Heap) (locs1 : List Loc), Sim (n + 1) x' y' → LW D L LM s x' y' H1 locs1 → W p l e room_1 s m #[Value.ref b] below meth c H1 locs1 (cells + 1) (slots + 40) Q (F0 m 1399 ls [])) : W p l e room_1 s m #[Value.ref b] below meth c H locs cells slots Q (F0 m 363 ls []) := by
  obtain ⟨⟨hx, hb, hr, hml, hown, hts0, hXs, hbl, hlocks, hgv⟩, hK, hSS, hσ, hX, hLn⟩ := G
  have hts : ∀ w ∈ lw_all, w.before #[Value.ref b] s = true := fun w h => hts0 w (lw_all_tbl h)
  have F : CallFix p m c code 4 s #[Value.ref b] lw_all R_law := ⟨hx, hb, hml, hown, hts⟩
  have e0 := hs.1.1
  have hO := hs.1.2.1
  have hd := hs.1.2.d (by omega)
  have hg := hs.1.2.2.1
  have hOM : wOk (y.1 0) := by rw [← e0]; exact hO
  have hdM : isN (y.1 0 1 2) 10000 := by rw [← e0]; exact hd
  have hgM : y.1 0 1 1 = 0 := by rw [← e0]; exact hg
  obtain ⟨t, ht, e1, e2⟩ := hs.2.2.1
  obtain ⟨hsh, hmk, hR⟩ := hs.2.2.2.2.2
  refine lv_aload_n hx hb dL_law_363 rfl (lv_at hl 1 rfl) ?_
  refine lv_aload_n hx hb dL_law_364 rfl (lv_at hl 0 rfl) ?_
  refine lv_iload_n hx hb dL_law_365 rfl (lv_at hl 3 rfl) ?_
  refine lv_iconst (v := 1) hx hb dL_law_366 (by decide) ?_
  refine lv_iadd hx hb dL_law_367 ?_
  refine n_sld (k := i + 1) hx hb hXs hbl hLn hL (na_add (b := 1) rfl rfl) (by omega) dL_law_368 ?_
  refine lv_aload_n hx hb dL_law_369 rfl (lv_at hl 0 rfl) ?_
  refine lv_iload_n hx hb dL_law_370 rfl (lv_at hl 3 rfl) ?_
  refine lv_iconst (v := 2) hx hb dL_law_371 (by decide) ?_
  refine lv_iadd hx hb dL_law_372 ?_
  refine n_sld (k := i + 2) hx hb hXs hbl hLn hL (na_add (b := 2) rfl rfl) (by omega) dL_law_373 ?_
  refine lv_aload_n hx hb dL_law_374 rfl (lv_at hl 0 rfl) ?_
  refine lv_iload_n hx hb dL_law_375 rfl (lv_at hl 3 rfl) ?_
  refine lv_iconst (v := 3) hx hb dL_law_376 (by decide) ?_
  refine lv_iadd hx hb dL_law_377 ?_
  refine n_sld (k := i + 3) hx hb hXs hbl hLn hL (na_add (b := 3) rfl rfl) (by omega) dL_law_378 ?_
  refine L_C (va_Run.mono (k_V (As := [.int (xq (i + 1)), .int (xq (i + 2)), .int (xq (i + 3))]) (rest := []) F (k_X0_change x hO (xq (i + 1)) (xq (i + 2)) (xq (i + 3))) (cwV 3 hts (lw_V q662 q663 q664 q91 q665) rfl rfl rfl (by decide +kernel) ⟨Nat.le_of_ble_eq_true rfl, Nat.le_of_ble_eq_true rfl⟩) hL.1 hK (hw.recv hL.1 hK cf_main rfl) rfl hl.1 rfl (Nat.le_of_ble_eq_true rfl) dL_law_379 ⟨show cells ≤ 814468 by omega, show slots ≤ 6652701 by omega⟩) nQ_C) hL (fun x2 H1 locs1 hP hL => ?_)
  refine W.widen (k := cells) (n := slots) (Nat.le_refl _) (Nat.le_refl _) ?_
  show W p l e room_1 s m #[Value.ref b] below meth c H1 locs1 cells slots Q (F0 m 382 ls [.int (aR (a_change (x.1 0) (xq (i + 1)) (xq (i + 2)) (xq (i + 3))))])
  refine lv_aload_n hx hb dL_law_382 rfl (lv_at hl 2 rfl) ?_
  refine lv_aload_n hx hb dL_law_383 rfl (lv_at hl 0 rfl) ?_
  refine lv_iload_n hx hb dL_law_384 rfl (lv_at hl 3 rfl) ?_
  refine lv_iconst (v := 1) hx hb dL_law_385 (by decide) ?_
  refine lv_iadd hx hb dL_law_386 ?_
  refine n_sld (k := i + 1) hx hb hXs hbl hLn hL (na_add (b := 1) rfl rfl) (by omega) dL_law_387 ?_
  refine lv_aload_n hx hb dL_law_388 rfl (lv_at hl 0 rfl) ?_
  refine lv_iload_n hx hb dL_law_389 rfl (lv_at hl 3 rfl) ?_
  refine lv_iconst (v := 2) hx hb dL_law_390 (by decide) ?_
  refine lv_iadd hx hb dL_law_391 ?_
  refine n_sld (k := i + 2) hx hb hXs hbl hLn hL (na_add (b := 2) rfl rfl) (by omega) dL_law_392 ?_
  refine lv_aload_n hx hb dL_law_393 rfl (lv_at hl 0 rfl) ?_
  refine lv_iload_n hx hb dL_law_394 rfl (lv_at hl 3 rfl) ?_
  refine lv_iconst (v := 3) hx hb dL_law_395 (by decide) ?_
  refine lv_iadd hx hb dL_law_396 ?_
  refine n_sld (k := i + 3) hx hb hXs hbl hLn hL (na_add (b := 3) rfl rfl) (by omega) dL_law_397 ?_
  refine L_M (va_Run.mono (k_V (As := [.int (xq (i + 1)), .int (xq (i + 2)), .int (xq (i + 3))]) (rest := [.int (aR (a_change (x.1 0) (xq (i + 1)) (xq (i + 2)) (xq (i + 3))))]) F (k_X13_change y hOM (xq (i + 1)) (xq (i + 2)) (xq (i + 3))) (cwV 3 hts (lw_V q1313 q1314 q1315 q107 q1316) rfl rfl rfl (by decide +kernel) ⟨Nat.le_of_ble_eq_true rfl, Nat.le_of_ble_eq_true rfl⟩) hL.2.1 hK (hw.recv hL.2.1 hK mf_main rfl) rfl hl.1 rfl (Nat.le_of_ble_eq_true rfl) dL_law_398 ⟨show cells ≤ 814468 by omega, show slots ≤ 6652701 by omega⟩) nQ_M) hL (fun y2 H1 locs1 hP2 hL => ?_)
  show W p l e room_1 s m #[Value.ref b] below meth c H1 locs1 cells slots Q (F0 m 401 ls [.int (aR (a_change (y.1 0) (xq (i + 1)) (xq (i + 2)) (xq (i + 3)))), .int (aR (a_change (x.1 0) (xq (i + 1)) (xq (i + 2)) (xq (i + 3))))])
  have eq : (aR (a_change (x.1 0) (xq (i + 1)) (xq (i + 2)) (xq (i + 3))) : Int32) = aR (a_change (y.1 0) (xq (i + 1)) (xq (i + 2)) (xq (i + 3))) := by rw [e0]
  refine lv_icmp_eq (tgt := 1399) hx hb dL_law_401 (by decide) (fun _ => ?_) (fun h => absurd eq h)
  refine W.widen (k := cells + 1) (n := slots + 40) (Nat.le_add_right _ _) (Nat.le_add_right _ _) ?_
  have hS2 : Sim (n + 1) (aC x (a_change (x.1 0) (xq (i + 1)) (xq (i + 2)) (xq (i + 3)))) (aM y (a_change (y.1 0) (xq (i + 1)) (xq (i + 2)) (xq (i + 3)))) := by rw [← e0]; exact Sim_act hs (Nat.le_succ n) _ (WS_change (hs.1.2.mono (Nat.le_succ n)) _ _ _)
  exact kk x2 y2 H1 locs1 (hS2.j hP hP2) hL
set_option maxHeartbeats 400000 in
theorem lc_6 {p : Program} {l : Launch} {e : Env} {s : State} {m : MethodId} {below : List Frame} {meth : Method} {c : Code} {b Ln : Nat} {xq : Nat → Int32} {D : va_G} {σ : Nat × Nat × Value} {z : Value × Value} {L LM : Nat → Nat} {x : cst} {y : mst} {n i cells slots : Nat} {H : Heap} {locs : List Loc} {ls : Array Slot} {Q : State → Prop} (G : LG p s m meth c b Ln xq D σ z) (hs : Sim n x y) (hn : n ≤ 63) (hL : LW D L LM s x y H locs) (hl : lv_has ls 4 [(0, .ref b), (1, .ref (L 44)), (2, .ref (LM 0)), (3, .int (nI i))]) (hi : i + 6 ≤ Ln) (hcs : cells ≤ 1000 ∧ slots ≤ 100000) (kk : ∀ (x' : cst) (y' : mst) (H1 : Heap) (locs1 : List Loc), Sim (n + 1) x' y' → LW D L LM s x' y' H1 locs1 → W p l e room_1 s m #[Value.ref b] below meth c H1 locs1 (cells + 1) (slots + 40) Q (F0 m 1399 ls [])) : W p l e room_1 s m #[Value.ref b] below meth c H locs cells slots Q (F0 m 406 ls []) := by
  obtain ⟨⟨hx, hb, hr, hml, hown, hts0, hXs, hbl, hlocks, hgv⟩, hK, hSS, hσ, hX, hLn⟩ := G
  have hts : ∀ w ∈ lw_all, w.before #[Value.ref b] s = true := fun w h => hts0 w (lw_all_tbl h)
  have F : CallFix p m c code 4 s #[Value.ref b] lw_all R_law := ⟨hx, hb, hml, hown, hts⟩
  have e0 := hs.1.1
  have hO := hs.1.2.1
  have hd := hs.1.2.d (by omega)
  have hg := hs.1.2.2.1
  have hOM : wOk (y.1 0) := by rw [← e0]; exact hO
  have hdM : isN (y.1 0 1 2) 10000 := by rw [← e0]; exact hd
  have hgM : y.1 0 1 1 = 0 := by rw [← e0]; exact hg
  obtain ⟨t, ht, e1, e2⟩ := hs.2.2.1
  obtain ⟨hsh, hmk, hR⟩ := hs.2.2.2.2.2
  refine lv_aload_n hx hb dL_law_406 rfl (lv_at hl 1 rfl) ?_
  refine lv_aload_n hx hb dL_law_407 rfl (lv_at hl 0 rfl) ?_
  refine lv_iload_n hx hb dL_law_408 rfl (lv_at hl 3 rfl) ?_
  refine lv_iconst (v := 1) hx hb dL_law_409 (by decide) ?_
  refine lv_iadd hx hb dL_law_410 ?_
  refine n_sld (k := i + 1) hx hb hXs hbl hLn hL (na_add (b := 1) rfl rfl) (by omega) dL_law_411 ?_
  refine L_C (va_Run.mono (k_V (As := [.int (xq (i + 1))]) (rest := []) F (k_X0_draw x hO (xq (i + 1))) (cwV 1 hts (lw_V q673 q674 q675 q91 q676) rfl rfl rfl (by decide +kernel) ⟨Nat.le_of_ble_eq_true rfl, Nat.le_of_ble_eq_true rfl⟩) hL.1 hK (hw.recv hL.1 hK cf_main rfl) rfl hl.1 rfl (Nat.le_of_ble_eq_true rfl) dL_law_412 ⟨show cells ≤ 814468 by omega, show slots ≤ 6652701 by omega⟩) nQ_C) hL (fun x2 H1 locs1 hP hL => ?_)
  refine W.widen (k := cells) (n := slots) (Nat.le_refl _) (Nat.le_refl _) ?_
  show W p l e room_1 s m #[Value.ref b] below meth c H1 locs1 cells slots Q (F0 m 415 ls [.int (aR (a_draw (x.1 0) (xq (i + 1))))])
  refine lv_aload_n hx hb dL_law_415 rfl (lv_at hl 2 rfl) ?_
  refine lv_aload_n hx hb dL_law_416 rfl (lv_at hl 0 rfl) ?_
  refine lv_iload_n hx hb dL_law_417 rfl (lv_at hl 3 rfl) ?_
  refine lv_iconst (v := 1) hx hb dL_law_418 (by decide) ?_
  refine lv_iadd hx hb dL_law_419 ?_
  refine n_sld (k := i + 1) hx hb hXs hbl hLn hL (na_add (b := 1) rfl rfl) (by omega) dL_law_420 ?_
  refine L_M (va_Run.mono (k_V (As := [.int (xq (i + 1))]) (rest := [.int (aR (a_draw (x.1 0) (xq (i + 1))))]) F (k_X13_draw y hOM (xq (i + 1))) (cwV 1 hts (lw_V q1321 q1322 q1323 q107 q1324) rfl rfl rfl (by decide +kernel) ⟨Nat.le_of_ble_eq_true rfl, Nat.le_of_ble_eq_true rfl⟩) hL.2.1 hK (hw.recv hL.2.1 hK mf_main rfl) rfl hl.1 rfl (Nat.le_of_ble_eq_true rfl) dL_law_421 ⟨show cells ≤ 814468 by omega, show slots ≤ 6652701 by omega⟩) nQ_M) hL (fun y2 H1 locs1 hP2 hL => ?_)
  show W p l e room_1 s m #[Value.ref b] below meth c H1 locs1 cells slots Q (F0 m 424 ls [.int (aR (a_draw (y.1 0) (xq (i + 1)))), .int (aR (a_draw (x.1 0) (xq (i + 1))))])
  have eq : (aR (a_draw (x.1 0) (xq (i + 1))) : Int32) = aR (a_draw (y.1 0) (xq (i + 1))) := by rw [e0]
  refine lv_icmp_eq (tgt := 1399) hx hb dL_law_424 (by decide) (fun _ => ?_) (fun h => absurd eq h)
  refine W.widen (k := cells + 1) (n := slots + 40) (Nat.le_add_right _ _) (Nat.le_add_right _ _) ?_
  have hS2 : Sim (n + 1) (aC x (a_draw (x.1 0) (xq (i + 1)))) (aM y (a_draw (y.1 0) (xq (i + 1)))) := by rw [← e0]; exact Sim_act hs (Nat.le_succ n) _ (WS_draw (hs.1.2.mono (Nat.le_succ n)) _)
  exact kk x2 y2 H1 locs1 (hS2.j hP hP2) hL
set_option maxHeartbeats 400000 in
theorem lc_7 {p : Program} {l : Launch} {e : Env} {s : State} {m : MethodId} {below : List Frame} {meth : Method} {c : Code} {b Ln : Nat} {xq : Nat → Int32} {D : va_G} {σ : Nat × Nat × Value} {z : Value × Value} {L LM : Nat → Nat} {x : cst} {y : mst} {n i cells slots : Nat} {H : Heap} {locs : List Loc} {ls : Array Slot} {Q : State → Prop} (G : LG p s m meth c b Ln xq D σ z) (hs : Sim n x y) (hn : n ≤ 63) (hL : LW D L LM s x y H locs) (hl : lv_has ls 4 [(0, .ref b), (1, .ref (L 44)), (2, .ref (LM 0)), (3, .int (nI i))]) (hi : i + 6 ≤ Ln) (hcs : cells ≤ 1000 ∧ slots ≤ 100000) (kk : ∀ (x' : cst) (y' : mst) (H1 : Heap) (locs1 : List Loc), Sim (n + 1) x' y' → LW D L LM s x' y' H1 locs1 → W p l e room_1 s m #[Value.ref b] below meth c H1 locs1 (cells + 1) (slots + 40) Q (F0 m 1399 ls [])) : W p l e room_1 s m #[Value.ref b] below meth c H locs cells slots Q (F0 m 429 ls []) := by
  obtain ⟨⟨hx, hb, hr, hml, hown, hts0, hXs, hbl, hlocks, hgv⟩, hK, hSS, hσ, hX, hLn⟩ := G
  have hts : ∀ w ∈ lw_all, w.before #[Value.ref b] s = true := fun w h => hts0 w (lw_all_tbl h)
  have F : CallFix p m c code 4 s #[Value.ref b] lw_all R_law := ⟨hx, hb, hml, hown, hts⟩
  have e0 := hs.1.1
  have hO := hs.1.2.1
  have hd := hs.1.2.d (by omega)
  have hg := hs.1.2.2.1
  have hOM : wOk (y.1 0) := by rw [← e0]; exact hO
  have hdM : isN (y.1 0 1 2) 10000 := by rw [← e0]; exact hd
  have hgM : y.1 0 1 1 = 0 := by rw [← e0]; exact hg
  obtain ⟨t, ht, e1, e2⟩ := hs.2.2.1
  obtain ⟨hsh, hmk, hR⟩ := hs.2.2.2.2.2
  refine lv_aload_n hx hb dL_law_429 rfl (lv_at hl 1 rfl) ?_
  refine lv_aload_n hx hb dL_law_430 rfl (lv_at hl 0 rfl) ?_
  refine lv_iload_n hx hb dL_law_431 rfl (lv_at hl 3 rfl) ?_
  refine lv_iconst (v := 1) hx hb dL_law_432 (by decide) ?_
  refine lv_iadd hx hb dL_law_433 ?_
  refine n_sld (k := i + 1) hx hb hXs hbl hLn hL (na_add (b := 1) rfl rfl) (by omega) dL_law_434 ?_
  refine lv_aload_n hx hb dL_law_435 rfl (lv_at hl 0 rfl) ?_
  refine lv_iload_n hx hb dL_law_436 rfl (lv_at hl 3 rfl) ?_
  refine lv_iconst (v := 2) hx hb dL_law_437 (by decide) ?_
  refine lv_iadd hx hb dL_law_438 ?_
  refine n_sld (k := i + 2) hx hb hXs hbl hLn hL (na_add (b := 2) rfl rfl) (by omega) dL_law_439 ?_
  refine L_C (va_Run.mono (k_V (As := [.int (xq (i + 1)), .int (xq (i + 2))]) (rest := []) F (k_X0_who x hO (xq (i + 1)) (xq (i + 2))) (cwV 2 hts (lw_V q688 q689 q690 q91 q691) rfl rfl rfl (by decide +kernel) ⟨Nat.le_of_ble_eq_true rfl, Nat.le_of_ble_eq_true rfl⟩) hL.1 hK (hw.recv hL.1 hK cf_main rfl) rfl hl.1 rfl (Nat.le_of_ble_eq_true rfl) dL_law_440 ⟨show cells ≤ 814468 by omega, show slots ≤ 6652701 by omega⟩) nQ_C) hL (fun x2 H1 locs1 hP hL => ?_)
  refine W.widen (k := cells) (n := slots) (Nat.le_refl _) (Nat.le_refl _) ?_
  show W p l e room_1 s m #[Value.ref b] below meth c H1 locs1 cells slots Q (F0 m 443 ls [.int (aR (a_who (x.1 0) (xq (i + 1)) (xq (i + 2))))])
  refine lv_aload_n hx hb dL_law_443 rfl (lv_at hl 2 rfl) ?_
  refine lv_aload_n hx hb dL_law_444 rfl (lv_at hl 0 rfl) ?_
  refine lv_iload_n hx hb dL_law_445 rfl (lv_at hl 3 rfl) ?_
  refine lv_iconst (v := 1) hx hb dL_law_446 (by decide) ?_
  refine lv_iadd hx hb dL_law_447 ?_
  refine n_sld (k := i + 1) hx hb hXs hbl hLn hL (na_add (b := 1) rfl rfl) (by omega) dL_law_448 ?_
  refine lv_aload_n hx hb dL_law_449 rfl (lv_at hl 0 rfl) ?_
  refine lv_iload_n hx hb dL_law_450 rfl (lv_at hl 3 rfl) ?_
  refine lv_iconst (v := 2) hx hb dL_law_451 (by decide) ?_
  refine lv_iadd hx hb dL_law_452 ?_
  refine n_sld (k := i + 2) hx hb hXs hbl hLn hL (na_add (b := 2) rfl rfl) (by omega) dL_law_453 ?_
  refine L_M (va_Run.mono (k_V (As := [.int (xq (i + 1)), .int (xq (i + 2))]) (rest := [.int (aR (a_who (x.1 0) (xq (i + 1)) (xq (i + 2))))]) F (k_X13_who y hOM (xq (i + 1)) (xq (i + 2))) (cwV 2 hts (lw_V q1329 q1330 q1331 q107 q1332) rfl rfl rfl (by decide +kernel) ⟨Nat.le_of_ble_eq_true rfl, Nat.le_of_ble_eq_true rfl⟩) hL.2.1 hK (hw.recv hL.2.1 hK mf_main rfl) rfl hl.1 rfl (Nat.le_of_ble_eq_true rfl) dL_law_454 ⟨show cells ≤ 814468 by omega, show slots ≤ 6652701 by omega⟩) nQ_M) hL (fun y2 H1 locs1 hP2 hL => ?_)
  show W p l e room_1 s m #[Value.ref b] below meth c H1 locs1 cells slots Q (F0 m 457 ls [.int (aR (a_who (y.1 0) (xq (i + 1)) (xq (i + 2)))), .int (aR (a_who (x.1 0) (xq (i + 1)) (xq (i + 2))))])
  have eq : (aR (a_who (x.1 0) (xq (i + 1)) (xq (i + 2))) : Int32) = aR (a_who (y.1 0) (xq (i + 1)) (xq (i + 2))) := by rw [e0]
  refine lv_icmp_eq (tgt := 1399) hx hb dL_law_457 (by decide) (fun _ => ?_) (fun h => absurd eq h)
  refine W.widen (k := cells + 1) (n := slots + 40) (Nat.le_add_right _ _) (Nat.le_add_right _ _) ?_
  have hS2 : Sim (n + 1) (aC x (a_who (x.1 0) (xq (i + 1)) (xq (i + 2)))) (aM y (a_who (y.1 0) (xq (i + 1)) (xq (i + 2)))) := by rw [← e0]; exact Sim_rd hs _ (rd_who _ _ _)
  exact kk x2 y2 H1 locs1 (hS2.j hP hP2) hL
set_option maxHeartbeats 400000 in
theorem lc_8 {p : Program} {l : Launch} {e : Env} {s : State} {m : MethodId} {below : List Frame} {meth : Method} {c : Code} {b Ln : Nat} {xq : Nat → Int32} {D : va_G} {σ : Nat × Nat × Value} {z : Value × Value} {L LM : Nat → Nat} {x : cst} {y : mst} {n i cells slots : Nat} {H : Heap} {locs : List Loc} {ls : Array Slot} {Q : State → Prop} (G : LG p s m meth c b Ln xq D σ z) (hs : Sim n x y) (hn : n ≤ 63) (hL : LW D L LM s x y H locs) (hl : lv_has ls 4 [(0, .ref b), (1, .ref (L 44)), (2, .ref (LM 0)), (3, .int (nI i))]) (hi : i + 6 ≤ Ln) (hcs : cells ≤ 1000 ∧ slots ≤ 100000) (kk : ∀ (x' : cst) (y' : mst) (H1 : Heap) (locs1 : List Loc), Sim (n + 1) x' y' → LW D L LM s x' y' H1 locs1 → W p l e room_1 s m #[Value.ref b] below meth c H1 locs1 (cells + 1) (slots + 40) Q (F0 m 1399 ls [])) : W p l e room_1 s m #[Value.ref b] below meth c H locs cells slots Q (F0 m 462 ls []) := by
  obtain ⟨⟨hx, hb, hr, hml, hown, hts0, hXs, hbl, hlocks, hgv⟩, hK, hSS, hσ, hX, hLn⟩ := G
  have hts : ∀ w ∈ lw_all, w.before #[Value.ref b] s = true := fun w h => hts0 w (lw_all_tbl h)
  have F : CallFix p m c code 4 s #[Value.ref b] lw_all R_law := ⟨hx, hb, hml, hown, hts⟩
  have e0 := hs.1.1
  have hO := hs.1.2.1
  have hd := hs.1.2.d (by omega)
  have hg := hs.1.2.2.1
  have hOM : wOk (y.1 0) := by rw [← e0]; exact hO
  have hdM : isN (y.1 0 1 2) 10000 := by rw [← e0]; exact hd
  have hgM : y.1 0 1 1 = 0 := by rw [← e0]; exact hg
  obtain ⟨t, ht, e1, e2⟩ := hs.2.2.1
  obtain ⟨hsh, hmk, hR⟩ := hs.2.2.2.2.2
  refine lv_aload_n hx hb dL_law_462 rfl (lv_at hl 1 rfl) ?_
  refine lv_aload_n hx hb dL_law_463 rfl (lv_at hl 0 rfl) ?_
  refine lv_iload_n hx hb dL_law_464 rfl (lv_at hl 3 rfl) ?_
  refine lv_iconst (v := 1) hx hb dL_law_465 (by decide) ?_
  refine lv_iadd hx hb dL_law_466 ?_
  refine n_sld (k := i + 1) hx hb hXs hbl hLn hL (na_add (b := 1) rfl rfl) (by omega) dL_law_467 ?_
  refine L_C (va_Run.mono (k_V (As := [.int (xq (i + 1))]) (rest := []) F (k_X0_go x hO hd (xq (i + 1))) (cwV 1 hts (lw_V q696 q697 q698 q91 q699) rfl rfl rfl (by decide +kernel) ⟨Nat.le_of_ble_eq_true rfl, Nat.le_of_ble_eq_true rfl⟩) hL.1 hK (hw.recv hL.1 hK cf_main rfl) rfl hl.1 rfl (Nat.le_of_ble_eq_true rfl) dL_law_468 ⟨show cells ≤ 814468 by omega, show slots ≤ 6652701 by omega⟩) nQ_C) hL (fun x2 H1 locs1 hP hL => ?_)
  refine W.widen (k := cells) (n := slots) (Nat.le_refl _) (Nat.le_refl _) ?_
  show W p l e room_1 s m #[Value.ref b] below meth c H1 locs1 cells slots Q (F0 m 471 ls [.int (aR (a_go (x.1 0) (xq (i + 1))))])
  refine lv_aload_n hx hb dL_law_471 rfl (lv_at hl 2 rfl) ?_
  refine lv_aload_n hx hb dL_law_472 rfl (lv_at hl 0 rfl) ?_
  refine lv_iload_n hx hb dL_law_473 rfl (lv_at hl 3 rfl) ?_
  refine lv_iconst (v := 1) hx hb dL_law_474 (by decide) ?_
  refine lv_iadd hx hb dL_law_475 ?_
  refine n_sld (k := i + 1) hx hb hXs hbl hLn hL (na_add (b := 1) rfl rfl) (by omega) dL_law_476 ?_
  refine L_M (va_Run.mono (k_V (As := [.int (xq (i + 1))]) (rest := [.int (aR (a_go (x.1 0) (xq (i + 1))))]) F (k_X13_go y hOM hdM (xq (i + 1))) (cwV 1 hts (lw_V q1337 q1338 q1339 q107 q1340) rfl rfl rfl (by decide +kernel) ⟨Nat.le_of_ble_eq_true rfl, Nat.le_of_ble_eq_true rfl⟩) hL.2.1 hK (hw.recv hL.2.1 hK mf_main rfl) rfl hl.1 rfl (Nat.le_of_ble_eq_true rfl) dL_law_477 ⟨show cells ≤ 814468 by omega, show slots ≤ 6652701 by omega⟩) nQ_M) hL (fun y2 H1 locs1 hP2 hL => ?_)
  show W p l e room_1 s m #[Value.ref b] below meth c H1 locs1 cells slots Q (F0 m 480 ls [.int (aR (a_go (y.1 0) (xq (i + 1)))), .int (aR (a_go (x.1 0) (xq (i + 1))))])
  have eq : (aR (a_go (x.1 0) (xq (i + 1))) : Int32) = aR (a_go (y.1 0) (xq (i + 1))) := by rw [e0]
  refine lv_icmp_eq (tgt := 1399) hx hb dL_law_480 (by decide) (fun _ => ?_) (fun h => absurd eq h)
  refine W.widen (k := cells + 1) (n := slots + 40) (Nat.le_add_right _ _) (Nat.le_add_right _ _) ?_
  have hS2 : Sim (n + 1) (aC x (a_go (x.1 0) (xq (i + 1)))) (aM y (a_go (y.1 0) (xq (i + 1)))) := by rw [← e0]; exact Sim_act hs (Nat.le_succ n) _ (WS_go hs.1.2 (by omega) _)
  exact kk x2 y2 H1 locs1 (hS2.j hP hP2) hL
set_option maxHeartbeats 400000 in
theorem lc_9 {p : Program} {l : Launch} {e : Env} {s : State} {m : MethodId} {below : List Frame} {meth : Method} {c : Code} {b Ln : Nat} {xq : Nat → Int32} {D : va_G} {σ : Nat × Nat × Value} {z : Value × Value} {L LM : Nat → Nat} {x : cst} {y : mst} {n i cells slots : Nat} {H : Heap} {locs : List Loc} {ls : Array Slot} {Q : State → Prop} (G : LG p s m meth c b Ln xq D σ z) (hs : Sim n x y) (hn : n ≤ 63) (hL : LW D L LM s x y H locs) (hl : lv_has ls 4 [(0, .ref b), (1, .ref (L 44)), (2, .ref (LM 0)), (3, .int (nI i))]) (hi : i + 6 ≤ Ln) (hcs : cells ≤ 1000 ∧ slots ≤ 100000) (kk : ∀ (x' : cst) (y' : mst) (H1 : Heap) (locs1 : List Loc), Sim (n + 1) x' y' → LW D L LM s x' y' H1 locs1 → W p l e room_1 s m #[Value.ref b] below meth c H1 locs1 (cells + 1) (slots + 40) Q (F0 m 1399 ls [])) : W p l e room_1 s m #[Value.ref b] below meth c H locs cells slots Q (F0 m 485 ls []) := by
  obtain ⟨⟨hx, hb, hr, hml, hown, hts0, hXs, hbl, hlocks, hgv⟩, hK, hSS, hσ, hX, hLn⟩ := G
  have hts : ∀ w ∈ lw_all, w.before #[Value.ref b] s = true := fun w h => hts0 w (lw_all_tbl h)
  have F : CallFix p m c code 4 s #[Value.ref b] lw_all R_law := ⟨hx, hb, hml, hown, hts⟩
  have e0 := hs.1.1
  have hO := hs.1.2.1
  have hd := hs.1.2.d (by omega)
  have hg := hs.1.2.2.1
  have hOM : wOk (y.1 0) := by rw [← e0]; exact hO
  have hdM : isN (y.1 0 1 2) 10000 := by rw [← e0]; exact hd
  have hgM : y.1 0 1 1 = 0 := by rw [← e0]; exact hg
  obtain ⟨t, ht, e1, e2⟩ := hs.2.2.1
  obtain ⟨hsh, hmk, hR⟩ := hs.2.2.2.2.2
  refine lv_aload_n hx hb dL_law_485 rfl (lv_at hl 1 rfl) ?_
  refine lv_aload_n hx hb dL_law_486 rfl (lv_at hl 0 rfl) ?_
  refine lv_iload_n hx hb dL_law_487 rfl (lv_at hl 3 rfl) ?_
  refine lv_iconst (v := 1) hx hb dL_law_488 (by decide) ?_
  refine lv_iadd hx hb dL_law_489 ?_
  refine n_sld (k := i + 1) hx hb hXs hbl hLn hL (na_add (b := 1) rfl rfl) (by omega) dL_law_490 ?_
  refine L_C (va_Run.mono (k_V (As := [.int (xq (i + 1))]) (rest := []) F (k_X0_now x hO (xq (i + 1))) (cwV 1 hts (lw_V q751 q752 q753 q91 q754) rfl rfl rfl (by decide +kernel) ⟨Nat.le_of_ble_eq_true rfl, Nat.le_of_ble_eq_true rfl⟩) hL.1 hK (hw.recv hL.1 hK cf_main rfl) rfl hl.1 rfl (Nat.le_of_ble_eq_true rfl) dL_law_491 ⟨show cells ≤ 814468 by omega, show slots ≤ 6652701 by omega⟩) nQ_C) hL (fun x2 H1 locs1 hP hL => ?_)
  refine W.widen (k := cells) (n := slots) (Nat.le_refl _) (Nat.le_refl _) ?_
  show W p l e room_1 s m #[Value.ref b] below meth c H1 locs1 cells slots Q (F0 m 494 ls [.int (aR (a_now (x.1 0) (xq (i + 1))))])
  refine lv_aload_n hx hb dL_law_494 rfl (lv_at hl 2 rfl) ?_
  refine lv_aload_n hx hb dL_law_495 rfl (lv_at hl 0 rfl) ?_
  refine lv_iload_n hx hb dL_law_496 rfl (lv_at hl 3 rfl) ?_
  refine lv_iconst (v := 1) hx hb dL_law_497 (by decide) ?_
  refine lv_iadd hx hb dL_law_498 ?_
  refine n_sld (k := i + 1) hx hb hXs hbl hLn hL (na_add (b := 1) rfl rfl) (by omega) dL_law_499 ?_
  refine L_M (va_Run.mono (k_V (As := [.int (xq (i + 1))]) (rest := [.int (aR (a_now (x.1 0) (xq (i + 1))))]) F (k_X13_now y hOM (xq (i + 1))) (cwV 1 hts (lw_V q1370 q1371 q1372 q107 q1373) rfl rfl rfl (by decide +kernel) ⟨Nat.le_of_ble_eq_true rfl, Nat.le_of_ble_eq_true rfl⟩) hL.2.1 hK (hw.recv hL.2.1 hK mf_main rfl) rfl hl.1 rfl (Nat.le_of_ble_eq_true rfl) dL_law_500 ⟨show cells ≤ 814468 by omega, show slots ≤ 6652701 by omega⟩) nQ_M) hL (fun y2 H1 locs1 hP2 hL => ?_)
  show W p l e room_1 s m #[Value.ref b] below meth c H1 locs1 cells slots Q (F0 m 503 ls [.int (aR (a_now (y.1 0) (xq (i + 1)))), .int (aR (a_now (x.1 0) (xq (i + 1))))])
  have eq : (aR (a_now (x.1 0) (xq (i + 1))) : Int32) = aR (a_now (y.1 0) (xq (i + 1))) := by rw [e0]
  refine lv_icmp_eq (tgt := 1399) hx hb dL_law_503 (by decide) (fun _ => ?_) (fun h => absurd eq h)
  refine W.widen (k := cells + 1) (n := slots + 40) (Nat.le_add_right _ _) (Nat.le_add_right _ _) ?_
  have hS2 : Sim (n + 1) (aC x (a_now (x.1 0) (xq (i + 1)))) (aM y (a_now (y.1 0) (xq (i + 1)))) := by rw [← e0]; exact Sim_rd hs _ (rd_now _ _)
  exact kk x2 y2 H1 locs1 (hS2.j hP hP2) hL
set_option maxHeartbeats 400000 in
theorem lc_10 {p : Program} {l : Launch} {e : Env} {s : State} {m : MethodId} {below : List Frame} {meth : Method} {c : Code} {b Ln : Nat} {xq : Nat → Int32} {D : va_G} {σ : Nat × Nat × Value} {z : Value × Value} {L LM : Nat → Nat} {x : cst} {y : mst} {n i cells slots : Nat} {H : Heap} {locs : List Loc} {ls : Array Slot} {Q : State → Prop} (G : LG p s m meth c b Ln xq D σ z) (hs : Sim n x y) (hn : n ≤ 63) (hL : LW D L LM s x y H locs) (hl : lv_has ls 4 [(0, .ref b), (1, .ref (L 44)), (2, .ref (LM 0)), (3, .int (nI i))]) (hi : i + 6 ≤ Ln) (hcs : cells ≤ 1000 ∧ slots ≤ 100000) (kk : ∀ (x' : cst) (y' : mst) (H1 : Heap) (locs1 : List Loc), Sim (n + 1) x' y' → LW D L LM s x' y' H1 locs1 → W p l e room_1 s m #[Value.ref b] below meth c H1 locs1 (cells + 1) (slots + 40) Q (F0 m 1399 ls [])) : W p l e room_1 s m #[Value.ref b] below meth c H locs cells slots Q (F0 m 508 ls []) := by
  obtain ⟨⟨hx, hb, hr, hml, hown, hts0, hXs, hbl, hlocks, hgv⟩, hK, hSS, hσ, hX, hLn⟩ := G
  have hts : ∀ w ∈ lw_all, w.before #[Value.ref b] s = true := fun w h => hts0 w (lw_all_tbl h)
  have F : CallFix p m c code 4 s #[Value.ref b] lw_all R_law := ⟨hx, hb, hml, hown, hts⟩
  have e0 := hs.1.1
  have hO := hs.1.2.1
  have hd := hs.1.2.d (by omega)
  have hg := hs.1.2.2.1
  have hOM : wOk (y.1 0) := by rw [← e0]; exact hO
  have hdM : isN (y.1 0 1 2) 10000 := by rw [← e0]; exact hd
  have hgM : y.1 0 1 1 = 0 := by rw [← e0]; exact hg
  obtain ⟨t, ht, e1, e2⟩ := hs.2.2.1
  obtain ⟨hsh, hmk, hR⟩ := hs.2.2.2.2.2
  refine lv_aload_n hx hb dL_law_508 rfl (lv_at hl 1 rfl) ?_
  refine lv_aload_n hx hb dL_law_509 rfl (lv_at hl 0 rfl) ?_
  refine lv_iload_n hx hb dL_law_510 rfl (lv_at hl 3 rfl) ?_
  refine lv_iconst (v := 1) hx hb dL_law_511 (by decide) ?_
  refine lv_iadd hx hb dL_law_512 ?_
  refine n_sld (k := i + 1) hx hb hXs hbl hLn hL (na_add (b := 1) rfl rfl) (by omega) dL_law_513 ?_
  refine lv_aload_n hx hb dL_law_514 rfl (lv_at hl 0 rfl) ?_
  refine lv_iload_n hx hb dL_law_515 rfl (lv_at hl 3 rfl) ?_
  refine lv_iconst (v := 2) hx hb dL_law_516 (by decide) ?_
  refine lv_iadd hx hb dL_law_517 ?_
  refine n_sld (k := i + 2) hx hb hXs hbl hLn hL (na_add (b := 2) rfl rfl) (by omega) dL_law_518 ?_
  refine lv_aload_n hx hb dL_law_519 rfl (lv_at hl 0 rfl) ?_
  refine lv_iload_n hx hb dL_law_520 rfl (lv_at hl 3 rfl) ?_
  refine lv_iconst (v := 3) hx hb dL_law_521 (by decide) ?_
  refine lv_iadd hx hb dL_law_522 ?_
  refine n_sld (k := i + 3) hx hb hXs hbl hLn hL (na_add (b := 3) rfl rfl) (by omega) dL_law_523 ?_
  refine L_C (va_Run.mono (k_V (As := [.int (xq (i + 1)), .int (xq (i + 2)), .int (xq (i + 3))]) (rest := []) F (k_X0_ahead x hO hd (xq (i + 1)) (xq (i + 2)) (xq (i + 3))) (cwV 3 hts (lw_V q768 q769 q770 q91 q771) rfl rfl rfl (by decide +kernel) ⟨Nat.le_of_ble_eq_true rfl, Nat.le_of_ble_eq_true rfl⟩) hL.1 hK (hw.recv hL.1 hK cf_main rfl) rfl hl.1 rfl (Nat.le_of_ble_eq_true rfl) dL_law_524 ⟨show cells ≤ 814468 by omega, show slots ≤ 6652701 by omega⟩) jQ_C) hL (fun x2 H1 locs1 hP hL => ?_)
  refine W.widen (k := cells) (n := slots) (Nat.le_refl _) (Nat.le_refl _) ?_
  show W p l e room_1 s m #[Value.ref b] below meth c H1 locs1 cells slots Q (F0 m 527 ls [.int (aR (a_ahead (x.1 0) (xq (i + 1)) (xq (i + 2)) (xq (i + 3))))])
  refine lv_aload_n hx hb dL_law_527 rfl (lv_at hl 2 rfl) ?_
  refine lv_aload_n hx hb dL_law_528 rfl (lv_at hl 0 rfl) ?_
  refine lv_iload_n hx hb dL_law_529 rfl (lv_at hl 3 rfl) ?_
  refine lv_iconst (v := 1) hx hb dL_law_530 (by decide) ?_
  refine lv_iadd hx hb dL_law_531 ?_
  refine n_sld (k := i + 1) hx hb hXs hbl hLn hL (na_add (b := 1) rfl rfl) (by omega) dL_law_532 ?_
  refine lv_aload_n hx hb dL_law_533 rfl (lv_at hl 0 rfl) ?_
  refine lv_iload_n hx hb dL_law_534 rfl (lv_at hl 3 rfl) ?_
  refine lv_iconst (v := 2) hx hb dL_law_535 (by decide) ?_
  refine lv_iadd hx hb dL_law_536 ?_
  refine n_sld (k := i + 2) hx hb hXs hbl hLn hL (na_add (b := 2) rfl rfl) (by omega) dL_law_537 ?_
  refine lv_aload_n hx hb dL_law_538 rfl (lv_at hl 0 rfl) ?_
  refine lv_iload_n hx hb dL_law_539 rfl (lv_at hl 3 rfl) ?_
  refine lv_iconst (v := 3) hx hb dL_law_540 (by decide) ?_
  refine lv_iadd hx hb dL_law_541 ?_
  refine n_sld (k := i + 3) hx hb hXs hbl hLn hL (na_add (b := 3) rfl rfl) (by omega) dL_law_542 ?_
  refine L_M (va_Run.mono (k_V (As := [.int (xq (i + 1)), .int (xq (i + 2)), .int (xq (i + 3))]) (rest := [.int (aR (a_ahead (x.1 0) (xq (i + 1)) (xq (i + 2)) (xq (i + 3))))]) F (k_X13_ahead y hOM hdM (xq (i + 1)) (xq (i + 2)) (xq (i + 3))) (cwV 3 hts (lw_V q1386 q1387 q1388 q107 q1389) rfl rfl rfl (by decide +kernel) ⟨Nat.le_of_ble_eq_true rfl, Nat.le_of_ble_eq_true rfl⟩) hL.2.1 hK (hw.recv hL.2.1 hK mf_main rfl) rfl hl.1 rfl (Nat.le_of_ble_eq_true rfl) dL_law_543 ⟨show cells ≤ 814468 by omega, show slots ≤ 6652701 by omega⟩) jQ_M) hL (fun y2 H1 locs1 hP2 hL => ?_)
  show W p l e room_1 s m #[Value.ref b] below meth c H1 locs1 cells slots Q (F0 m 546 ls [.int (aR (a_ahead (y.1 0) (xq (i + 1)) (xq (i + 2)) (xq (i + 3)))), .int (aR (a_ahead (x.1 0) (xq (i + 1)) (xq (i + 2)) (xq (i + 3))))])
  have eq : (aR (a_ahead (x.1 0) (xq (i + 1)) (xq (i + 2)) (xq (i + 3))) : Int32) = aR (a_ahead (y.1 0) (xq (i + 1)) (xq (i + 2)) (xq (i + 3))) := by rw [e0]
  refine lv_icmp_eq (tgt := 1399) hx hb dL_law_546 (by decide) (fun _ => ?_) (fun h => absurd eq h)
  refine W.widen (k := cells + 1) (n := slots + 40) (Nat.le_add_right _ _) (Nat.le_add_right _ _) ?_
  have hS2 : Sim (n + 1) (aC x (a_ahead (x.1 0) (xq (i + 1)) (xq (i + 2)) (xq (i + 3)))) (aM y (a_ahead (y.1 0) (xq (i + 1)) (xq (i + 2)) (xq (i + 3)))) := by rw [← e0]; exact Sim_rd hs _ (rd_ahead _ _ _ _)
  exact kk x2 y2 H1 locs1 (hS2.j hP hP2) hL
set_option maxHeartbeats 400000 in
theorem lc_11 {p : Program} {l : Launch} {e : Env} {s : State} {m : MethodId} {below : List Frame} {meth : Method} {c : Code} {b Ln : Nat} {xq : Nat → Int32} {D : va_G} {σ : Nat × Nat × Value} {z : Value × Value} {L LM : Nat → Nat} {x : cst} {y : mst} {n i cells slots : Nat} {H : Heap} {locs : List Loc} {ls : Array Slot} {Q : State → Prop} (G : LG p s m meth c b Ln xq D σ z) (hs : Sim n x y) (hn : n ≤ 63) (hL : LW D L LM s x y H locs) (hl : lv_has ls 4 [(0, .ref b), (1, .ref (L 44)), (2, .ref (LM 0)), (3, .int (nI i))]) (hi : i + 6 ≤ Ln) (hcs : cells ≤ 1000 ∧ slots ≤ 100000) (kk : ∀ (x' : cst) (y' : mst) (H1 : Heap) (locs1 : List Loc), Sim (n + 1) x' y' → LW D L LM s x' y' H1 locs1 → W p l e room_1 s m #[Value.ref b] below meth c H1 locs1 (cells + 1) (slots + 40) Q (F0 m 1399 ls [])) : W p l e room_1 s m #[Value.ref b] below meth c H locs cells slots Q (F0 m 551 ls []) := by
  obtain ⟨⟨hx, hb, hr, hml, hown, hts0, hXs, hbl, hlocks, hgv⟩, hK, hSS, hσ, hX, hLn⟩ := G
  have hts : ∀ w ∈ lw_all, w.before #[Value.ref b] s = true := fun w h => hts0 w (lw_all_tbl h)
  have F : CallFix p m c code 4 s #[Value.ref b] lw_all R_law := ⟨hx, hb, hml, hown, hts⟩
  have e0 := hs.1.1
  have hO := hs.1.2.1
  have hd := hs.1.2.d (by omega)
  have hg := hs.1.2.2.1
  have hOM : wOk (y.1 0) := by rw [← e0]; exact hO
  have hdM : isN (y.1 0 1 2) 10000 := by rw [← e0]; exact hd
  have hgM : y.1 0 1 1 = 0 := by rw [← e0]; exact hg
  obtain ⟨t, ht, e1, e2⟩ := hs.2.2.1
  obtain ⟨hsh, hmk, hR⟩ := hs.2.2.2.2.2
  refine lv_aload_n hx hb dL_law_551 rfl (lv_at hl 1 rfl) ?_
  refine lv_aload_n hx hb dL_law_552 rfl (lv_at hl 0 rfl) ?_
  refine lv_iload_n hx hb dL_law_553 rfl (lv_at hl 3 rfl) ?_
  refine lv_iconst (v := 1) hx hb dL_law_554 (by decide) ?_
  refine lv_iadd hx hb dL_law_555 ?_
  refine n_sld (k := i + 1) hx hb hXs hbl hLn hL (na_add (b := 1) rfl rfl) (by omega) dL_law_556 ?_
  refine lv_aload_n hx hb dL_law_557 rfl (lv_at hl 0 rfl) ?_
  refine lv_iload_n hx hb dL_law_558 rfl (lv_at hl 3 rfl) ?_
  refine lv_iconst (v := 2) hx hb dL_law_559 (by decide) ?_
  refine lv_iadd hx hb dL_law_560 ?_
  refine n_sld (k := i + 2) hx hb hXs hbl hLn hL (na_add (b := 2) rfl rfl) (by omega) dL_law_561 ?_
  refine L_C (va_Run.mono (k_V (As := [.int (xq (i + 1)), .int (xq (i + 2))]) (rest := []) F (k_X0_hears x hO hd (xq (i + 1)) (xq (i + 2))) (cwV 2 hts (lw_V q786 q787 q788 q91 q789) rfl rfl rfl (by decide +kernel) ⟨Nat.le_of_ble_eq_true rfl, Nat.le_of_ble_eq_true rfl⟩) hL.1 hK (hw.recv hL.1 hK cf_main rfl) rfl hl.1 rfl (Nat.le_of_ble_eq_true rfl) dL_law_562 ⟨show cells ≤ 814468 by omega, show slots ≤ 6652701 by omega⟩) jQ_C) hL (fun x2 H1 locs1 hP hL => ?_)
  refine W.widen (k := cells) (n := slots) (Nat.le_refl _) (Nat.le_refl _) ?_
  show W p l e room_1 s m #[Value.ref b] below meth c H1 locs1 cells slots Q (F0 m 565 ls [.int (aR (a_hears (x.1 0) (xq (i + 1)) (xq (i + 2))))])
  refine lv_aload_n hx hb dL_law_565 rfl (lv_at hl 2 rfl) ?_
  refine lv_aload_n hx hb dL_law_566 rfl (lv_at hl 0 rfl) ?_
  refine lv_iload_n hx hb dL_law_567 rfl (lv_at hl 3 rfl) ?_
  refine lv_iconst (v := 1) hx hb dL_law_568 (by decide) ?_
  refine lv_iadd hx hb dL_law_569 ?_
  refine n_sld (k := i + 1) hx hb hXs hbl hLn hL (na_add (b := 1) rfl rfl) (by omega) dL_law_570 ?_
  refine lv_aload_n hx hb dL_law_571 rfl (lv_at hl 0 rfl) ?_
  refine lv_iload_n hx hb dL_law_572 rfl (lv_at hl 3 rfl) ?_
  refine lv_iconst (v := 2) hx hb dL_law_573 (by decide) ?_
  refine lv_iadd hx hb dL_law_574 ?_
  refine n_sld (k := i + 2) hx hb hXs hbl hLn hL (na_add (b := 2) rfl rfl) (by omega) dL_law_575 ?_
  refine L_M (va_Run.mono (k_V (As := [.int (xq (i + 1)), .int (xq (i + 2))]) (rest := [.int (aR (a_hears (x.1 0) (xq (i + 1)) (xq (i + 2))))]) F (k_X13_hears y hOM hdM (xq (i + 1)) (xq (i + 2))) (cwV 2 hts (lw_V q1398 q1399 q1400 q107 q1401) rfl rfl rfl (by decide +kernel) ⟨Nat.le_of_ble_eq_true rfl, Nat.le_of_ble_eq_true rfl⟩) hL.2.1 hK (hw.recv hL.2.1 hK mf_main rfl) rfl hl.1 rfl (Nat.le_of_ble_eq_true rfl) dL_law_576 ⟨show cells ≤ 814468 by omega, show slots ≤ 6652701 by omega⟩) jQ_M) hL (fun y2 H1 locs1 hP2 hL => ?_)
  show W p l e room_1 s m #[Value.ref b] below meth c H1 locs1 cells slots Q (F0 m 579 ls [.int (aR (a_hears (y.1 0) (xq (i + 1)) (xq (i + 2)))), .int (aR (a_hears (x.1 0) (xq (i + 1)) (xq (i + 2))))])
  have eq : (aR (a_hears (x.1 0) (xq (i + 1)) (xq (i + 2))) : Int32) = aR (a_hears (y.1 0) (xq (i + 1)) (xq (i + 2))) := by rw [e0]
  refine lv_icmp_eq (tgt := 1399) hx hb dL_law_579 (by decide) (fun _ => ?_) (fun h => absurd eq h)
  refine W.widen (k := cells + 1) (n := slots + 40) (Nat.le_add_right _ _) (Nat.le_add_right _ _) ?_
  have hS2 : Sim (n + 1) (aC x (a_hears (x.1 0) (xq (i + 1)) (xq (i + 2)))) (aM y (a_hears (y.1 0) (xq (i + 1)) (xq (i + 2)))) := by rw [← e0]; exact Sim_rd hs _ (rd_hears _ _ _)
  exact kk x2 y2 H1 locs1 (hS2.j hP hP2) hL
set_option maxHeartbeats 400000 in
theorem lc_12 {p : Program} {l : Launch} {e : Env} {s : State} {m : MethodId} {below : List Frame} {meth : Method} {c : Code} {b Ln : Nat} {xq : Nat → Int32} {D : va_G} {σ : Nat × Nat × Value} {z : Value × Value} {L LM : Nat → Nat} {x : cst} {y : mst} {n i cells slots : Nat} {H : Heap} {locs : List Loc} {ls : Array Slot} {Q : State → Prop} (G : LG p s m meth c b Ln xq D σ z) (hs : Sim n x y) (hn : n ≤ 63) (hL : LW D L LM s x y H locs) (hl : lv_has ls 4 [(0, .ref b), (1, .ref (L 44)), (2, .ref (LM 0)), (3, .int (nI i))]) (hi : i + 6 ≤ Ln) (hcs : cells ≤ 1000 ∧ slots ≤ 100000) (kk : ∀ (x' : cst) (y' : mst) (H1 : Heap) (locs1 : List Loc), Sim (n + 1) x' y' → LW D L LM s x' y' H1 locs1 → W p l e room_1 s m #[Value.ref b] below meth c H1 locs1 (cells + 1) (slots + 40) Q (F0 m 1399 ls [])) : W p l e room_1 s m #[Value.ref b] below meth c H locs cells slots Q (F0 m 584 ls []) := by
  obtain ⟨⟨hx, hb, hr, hml, hown, hts0, hXs, hbl, hlocks, hgv⟩, hK, hSS, hσ, hX, hLn⟩ := G
  have hts : ∀ w ∈ lw_all, w.before #[Value.ref b] s = true := fun w h => hts0 w (lw_all_tbl h)
  have F : CallFix p m c code 4 s #[Value.ref b] lw_all R_law := ⟨hx, hb, hml, hown, hts⟩
  have e0 := hs.1.1
  have hO := hs.1.2.1
  have hd := hs.1.2.d (by omega)
  have hg := hs.1.2.2.1
  have hOM : wOk (y.1 0) := by rw [← e0]; exact hO
  have hdM : isN (y.1 0 1 2) 10000 := by rw [← e0]; exact hd
  have hgM : y.1 0 1 1 = 0 := by rw [← e0]; exact hg
  obtain ⟨t, ht, e1, e2⟩ := hs.2.2.1
  obtain ⟨hsh, hmk, hR⟩ := hs.2.2.2.2.2
  refine lv_aload_n hx hb dL_law_584 rfl (lv_at hl 1 rfl) ?_
  refine lv_aload_n hx hb dL_law_585 rfl (lv_at hl 0 rfl) ?_
  refine lv_iload_n hx hb dL_law_586 rfl (lv_at hl 3 rfl) ?_
  refine lv_iconst (v := 1) hx hb dL_law_587 (by decide) ?_
  refine lv_iadd hx hb dL_law_588 ?_
  refine n_sld (k := i + 1) hx hb hXs hbl hLn hL (na_add (b := 1) rfl rfl) (by omega) dL_law_589 ?_
  refine lv_aload_n hx hb dL_law_590 rfl (lv_at hl 0 rfl) ?_
  refine lv_iload_n hx hb dL_law_591 rfl (lv_at hl 3 rfl) ?_
  refine lv_iconst (v := 2) hx hb dL_law_592 (by decide) ?_
  refine lv_iadd hx hb dL_law_593 ?_
  refine n_sld (k := i + 2) hx hb hXs hbl hLn hL (na_add (b := 2) rfl rfl) (by omega) dL_law_594 ?_
  refine L_C (va_Run.mono (k_V (As := [.int (xq (i + 1)), .int (xq (i + 2))]) (rest := []) F (k_X0_wise x hO hd (xq (i + 1)) (xq (i + 2))) (cwV 2 hts (lw_V q798 q799 q800 q91 q801) rfl rfl rfl (by decide +kernel) ⟨Nat.le_of_ble_eq_true rfl, Nat.le_of_ble_eq_true rfl⟩) hL.1 hK (hw.recv hL.1 hK cf_main rfl) rfl hl.1 rfl (Nat.le_of_ble_eq_true rfl) dL_law_595 ⟨show cells ≤ 814468 by omega, show slots ≤ 6652701 by omega⟩) jQ_C) hL (fun x2 H1 locs1 hP hL => ?_)
  refine W.widen (k := cells) (n := slots) (Nat.le_refl _) (Nat.le_refl _) ?_
  show W p l e room_1 s m #[Value.ref b] below meth c H1 locs1 cells slots Q (F0 m 598 ls [.int (aR (a_wise (x.1 0) (xq (i + 1)) (xq (i + 2))))])
  refine lv_aload_n hx hb dL_law_598 rfl (lv_at hl 2 rfl) ?_
  refine lv_aload_n hx hb dL_law_599 rfl (lv_at hl 0 rfl) ?_
  refine lv_iload_n hx hb dL_law_600 rfl (lv_at hl 3 rfl) ?_
  refine lv_iconst (v := 1) hx hb dL_law_601 (by decide) ?_
  refine lv_iadd hx hb dL_law_602 ?_
  refine n_sld (k := i + 1) hx hb hXs hbl hLn hL (na_add (b := 1) rfl rfl) (by omega) dL_law_603 ?_
  refine lv_aload_n hx hb dL_law_604 rfl (lv_at hl 0 rfl) ?_
  refine lv_iload_n hx hb dL_law_605 rfl (lv_at hl 3 rfl) ?_
  refine lv_iconst (v := 2) hx hb dL_law_606 (by decide) ?_
  refine lv_iadd hx hb dL_law_607 ?_
  refine n_sld (k := i + 2) hx hb hXs hbl hLn hL (na_add (b := 2) rfl rfl) (by omega) dL_law_608 ?_
  refine L_M (va_Run.mono (k_V (As := [.int (xq (i + 1)), .int (xq (i + 2))]) (rest := [.int (aR (a_wise (x.1 0) (xq (i + 1)) (xq (i + 2))))]) F (k_X13_wise y hOM hdM (xq (i + 1)) (xq (i + 2))) (cwV 2 hts (lw_V q1402 q1403 q1404 q107 q1405) rfl rfl rfl (by decide +kernel) ⟨Nat.le_of_ble_eq_true rfl, Nat.le_of_ble_eq_true rfl⟩) hL.2.1 hK (hw.recv hL.2.1 hK mf_main rfl) rfl hl.1 rfl (Nat.le_of_ble_eq_true rfl) dL_law_609 ⟨show cells ≤ 814468 by omega, show slots ≤ 6652701 by omega⟩) jQ_M) hL (fun y2 H1 locs1 hP2 hL => ?_)
  show W p l e room_1 s m #[Value.ref b] below meth c H1 locs1 cells slots Q (F0 m 612 ls [.int (aR (a_wise (y.1 0) (xq (i + 1)) (xq (i + 2)))), .int (aR (a_wise (x.1 0) (xq (i + 1)) (xq (i + 2))))])
  have eq : (aR (a_wise (x.1 0) (xq (i + 1)) (xq (i + 2))) : Int32) = aR (a_wise (y.1 0) (xq (i + 1)) (xq (i + 2))) := by rw [e0]
  refine lv_icmp_eq (tgt := 1399) hx hb dL_law_612 (by decide) (fun _ => ?_) (fun h => absurd eq h)
  refine W.widen (k := cells + 1) (n := slots + 40) (Nat.le_add_right _ _) (Nat.le_add_right _ _) ?_
  have hS2 : Sim (n + 1) (aC x (a_wise (x.1 0) (xq (i + 1)) (xq (i + 2)))) (aM y (a_wise (y.1 0) (xq (i + 1)) (xq (i + 2)))) := by rw [← e0]; exact Sim_rd hs _ (rd_wise _ _ _)
  exact kk x2 y2 H1 locs1 (hS2.j hP hP2) hL
set_option maxHeartbeats 400000 in
theorem lc_13 {p : Program} {l : Launch} {e : Env} {s : State} {m : MethodId} {below : List Frame} {meth : Method} {c : Code} {b Ln : Nat} {xq : Nat → Int32} {D : va_G} {σ : Nat × Nat × Value} {z : Value × Value} {L LM : Nat → Nat} {x : cst} {y : mst} {n i cells slots : Nat} {H : Heap} {locs : List Loc} {ls : Array Slot} {Q : State → Prop} (G : LG p s m meth c b Ln xq D σ z) (hs : Sim n x y) (hn : n ≤ 63) (hL : LW D L LM s x y H locs) (hl : lv_has ls 4 [(0, .ref b), (1, .ref (L 44)), (2, .ref (LM 0)), (3, .int (nI i))]) (hi : i + 6 ≤ Ln) (hcs : cells ≤ 1000 ∧ slots ≤ 100000) (kk : ∀ (x' : cst) (y' : mst) (H1 : Heap) (locs1 : List Loc), Sim (n + 1) x' y' → LW D L LM s x' y' H1 locs1 → W p l e room_1 s m #[Value.ref b] below meth c H1 locs1 (cells + 1) (slots + 40) Q (F0 m 1399 ls [])) : W p l e room_1 s m #[Value.ref b] below meth c H locs cells slots Q (F0 m 617 ls []) := by
  obtain ⟨⟨hx, hb, hr, hml, hown, hts0, hXs, hbl, hlocks, hgv⟩, hK, hSS, hσ, hX, hLn⟩ := G
  have hts : ∀ w ∈ lw_all, w.before #[Value.ref b] s = true := fun w h => hts0 w (lw_all_tbl h)
  have F : CallFix p m c code 4 s #[Value.ref b] lw_all R_law := ⟨hx, hb, hml, hown, hts⟩
  have e0 := hs.1.1
  have hO := hs.1.2.1
  have hd := hs.1.2.d (by omega)
  have hg := hs.1.2.2.1
  have hOM : wOk (y.1 0) := by rw [← e0]; exact hO
  have hdM : isN (y.1 0 1 2) 10000 := by rw [← e0]; exact hd
  have hgM : y.1 0 1 1 = 0 := by rw [← e0]; exact hg
  obtain ⟨t, ht, e1, e2⟩ := hs.2.2.1
  obtain ⟨hsh, hmk, hR⟩ := hs.2.2.2.2.2
  refine lv_aload_n hx hb dL_law_617 rfl (lv_at hl 1 rfl) ?_
  refine lv_aload_n hx hb dL_law_618 rfl (lv_at hl 0 rfl) ?_
  refine lv_iload_n hx hb dL_law_619 rfl (lv_at hl 3 rfl) ?_
  refine lv_iconst (v := 1) hx hb dL_law_620 (by decide) ?_
  refine lv_iadd hx hb dL_law_621 ?_
  refine n_sld (k := i + 1) hx hb hXs hbl hLn hL (na_add (b := 1) rfl rfl) (by omega) dL_law_622 ?_
  refine L_C (va_Run.mono (k_V (As := [.int (xq (i + 1))]) (rest := []) F (k_X0_out x hO hd (xq (i + 1))) (cwV 1 hts (lw_V q810 q811 q812 q91 q813) rfl rfl rfl (by decide +kernel) ⟨Nat.le_of_ble_eq_true rfl, Nat.le_of_ble_eq_true rfl⟩) hL.1 hK (hw.recv hL.1 hK cf_main rfl) rfl hl.1 rfl (Nat.le_of_ble_eq_true rfl) dL_law_623 ⟨show cells ≤ 814468 by omega, show slots ≤ 6652701 by omega⟩) jQ_C) hL (fun x2 H1 locs1 hP hL => ?_)
  refine W.widen (k := cells) (n := slots) (Nat.le_refl _) (Nat.le_refl _) ?_
  show W p l e room_1 s m #[Value.ref b] below meth c H1 locs1 cells slots Q (F0 m 626 ls [.int (aR (a_out (x.1 0) (xq (i + 1))))])
  refine lv_aload_n hx hb dL_law_626 rfl (lv_at hl 2 rfl) ?_
  refine lv_aload_n hx hb dL_law_627 rfl (lv_at hl 0 rfl) ?_
  refine lv_iload_n hx hb dL_law_628 rfl (lv_at hl 3 rfl) ?_
  refine lv_iconst (v := 1) hx hb dL_law_629 (by decide) ?_
  refine lv_iadd hx hb dL_law_630 ?_
  refine n_sld (k := i + 1) hx hb hXs hbl hLn hL (na_add (b := 1) rfl rfl) (by omega) dL_law_631 ?_
  refine L_M (va_Run.mono (k_V (As := [.int (xq (i + 1))]) (rest := [.int (aR (a_out (x.1 0) (xq (i + 1))))]) F (k_X13_out y hOM hdM (xq (i + 1))) (cwV 1 hts (lw_V q1407 q1408 q1409 q107 q1410) rfl rfl rfl (by decide +kernel) ⟨Nat.le_of_ble_eq_true rfl, Nat.le_of_ble_eq_true rfl⟩) hL.2.1 hK (hw.recv hL.2.1 hK mf_main rfl) rfl hl.1 rfl (Nat.le_of_ble_eq_true rfl) dL_law_632 ⟨show cells ≤ 814468 by omega, show slots ≤ 6652701 by omega⟩) jQ_M) hL (fun y2 H1 locs1 hP2 hL => ?_)
  show W p l e room_1 s m #[Value.ref b] below meth c H1 locs1 cells slots Q (F0 m 635 ls [.int (aR (a_out (y.1 0) (xq (i + 1)))), .int (aR (a_out (x.1 0) (xq (i + 1))))])
  have eq : (aR (a_out (x.1 0) (xq (i + 1))) : Int32) = aR (a_out (y.1 0) (xq (i + 1))) := by rw [e0]
  refine lv_icmp_eq (tgt := 1399) hx hb dL_law_635 (by decide) (fun _ => ?_) (fun h => absurd eq h)
  refine W.widen (k := cells + 1) (n := slots + 40) (Nat.le_add_right _ _) (Nat.le_add_right _ _) ?_
  have hS2 : Sim (n + 1) (aC x (a_out (x.1 0) (xq (i + 1)))) (aM y (a_out (y.1 0) (xq (i + 1)))) := by rw [← e0]; exact Sim_rd hs _ (rd_out _ _)
  exact kk x2 y2 H1 locs1 (hS2.j hP hP2) hL
