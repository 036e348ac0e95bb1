/-! the reader: items -/
section GL
variable {tp : Nat → Int32} {n a b k v : Nat} {w : wd}
theorem gl_1 (h : k = 2 ∧ v = 9) : gl1P tp n (w, a, b, k, v) = behP tp n 6 (w, a, b, k, v) := if_pos h
theorem gl_0 (h : ¬ (k = 2 ∧ v = 9)) : gl1P tp n (w, a, b, k, v) = .inr (0, w, a, b, k, v) := if_neg h
theorem gl_n {kd : Nat} (h : ¬ wN w < 8) : gloP tp n kd (w, a, b, k, v) = .inl b := if_neg h
theorem it_n (h : ¬ (k = 2 ∧ v ≤ 8)) : iteP tp n (w, a, b, k, v) = .inl b := if_neg h
theorem it_7 (h : k = 2) (h2 : v = 7) : iteP tp n (w, a, b, k, v) = saiP tp n (w, a, b, k, v) := by
  unfold iteP; rw [if_pos ⟨h, by show v ≤ 8; omega⟩]; exact if_pos h2
theorem it_8 (h : k = 2) (h2 : v = 8) : iteP tp n (w, a, b, k, v) = hanP tp n (w, a, b, k, v) := by
  unfold iteP; rw [if_pos ⟨h, by show v ≤ 8; omega⟩, if_neg (by show ¬ v = 7; omega)]; exact if_pos h2
theorem it_g (h : k = 2) (h2 : v < 7) : iteP tp n (w, a, b, k, v) = gloP tp n v (w, a, b, k, v) := by
  unfold iteP; rw [if_pos ⟨h, by show v ≤ 8; omega⟩, if_neg (by show ¬ v = 7; omega)]; exact if_neg (by show ¬ v = 8; omega)
theorem wh_3 {f c : Nat} (h : k = 3) : whoP tp n (f + 1) c (w, a, b, k, v) = (match nextP tp n (w, a, b, k, v) with
      | .inl b => .inl b
      | .inr s1 => match iteP tp n s1 with
        | .inl b => .inl b
        | .inr s2 => whoP tp n f (c + 1) s2) := if_pos h
theorem wh_0 {f c : Nat} (h : k = 0) : whoP tp n (f + 1) c (w, a, b, k, v) = .inr (c, w, a, b, k, v) := by
  unfold whoP; rw [if_neg (by show ¬ k = 3; omega)]; exact if_pos h
theorem wh_x {f c : Nat} (h : ¬ k = 3) (h2 : ¬ k = 0) : whoP tp n (f + 1) c (w, a, b, k, v) = .inl b := by
  unfold whoP; rw [if_neg h]; exact if_neg h2
theorem ite_2 {s s' : ps} (e : iteP tp n s = .inr s') : s.2.2.2.1 = 2 := by
  unfold iteP at e
  split at e
  · rename_i h; exact h.1
  · cases e
end GL
theorem k_X2_perhaps {l : Launch} {D : va_G} {L : Nat → Nat} {A : Nat → Prop} {σ : Nat × Nat × Value} (x : cst) (n : Nat) (hR : rOk x n) (hσ : σ.2.2 = .null ∨ ∃ a, σ.2.2 = .ref a) (w : wd) (a b k v : Nat) (hs : psOk n (w, a, b, k, v)) (hv : Int32) (h : Nat) (hh : hi1 hv h) (key r : Nat) (hkey : key < 100) (hp : perOk r h) (hwp : 1 ≤ wN w) : MetX l yX2_perhaps (ws_ yX2_perhaps cX2_perhaps 4 none) ({ frames := 9, cells := 0, slots := 0, locals := 196 } : Room) (va_Pc [.ref (L 46), .int (nI key), .int (nI r), .int hv] (pS D (cfC D L (rdX x (w, a, b, k, v))) A σ)) (pQ D L (rdX x (w, a, b, k, v)) A (vR x (perP (x.2.1 2) n key r h (w, a, b, k, v)))) A := by
  refine met_XS (by decide) rfl (Nat.le_of_ble_eq_true rfl) ?_
  intro p e s m below meth c ls hx hb hr hml hown hts hlocks hl hI hK hSS hout
  have F : CallFix p m c cX2_perhaps 4 s _ lw_all RX2 := ⟨hx, hb, hml, hown, hts⟩
  have hl : lv_has ls 4 [(0, .ref (L 46)), (1, .int (nI key)), (2, .int (nI r)), (3, .int hv)] := hl
  have hS : va_S A s.heap s.heap [] := va_S.rf
  obtain ⟨hrn, hrN, hrt⟩ := id hR
  obtain ⟨ho0, ha0, hk0, hv0⟩ : wOk w ∧ a ≤ n ∧ k < 4 ∧ (k = 1 ∨ k = 2 → v < 1000000) := ⟨hs.1, hs.2.1, hs.2.2.1, hs.2.2.2⟩
  have hw8 : wN w ≤ 8 := (wOk.n hs.1).2
  have hr7 : r < 7 := by unfold perOk at hp; omega
  refine lv_aload_n hx hb dX2_perhaps_0 rfl (lv_at hl 0 rfl) ?_
  refine lv_iload_n hx hb dX2_perhaps_1 rfl (lv_at hl 1 rfl) ?_
  refine c_r (k_V (As := [.int (nI key)]) (rest := []) F (k_X2_isWord x n hR w a b k v hs key (by omega)) (cwV 1 hts (lw_V q1051 q1053 qs41 q96 q1054) rfl rfl rfl (by decide +kernel) ⟨Nat.le_of_ble_eq_true rfl, Nat.le_of_ble_eq_true rfl⟩) hI hK (hw.recv hI hK (cf_reader) rfl) rfl hl.1 rfl (Nat.le_of_ble_eq_true rfl) dX2_perhaps_2 ⟨Nat.le_of_ble_eq_true rfl, Nat.le_of_ble_eq_true rfl⟩) ?_
  refine lv_if_eq (tgt := 33) hx hb dX2_perhaps_5 (by decide) (fun c_5 => ?_) (fun c_5 => ?_)
  · skip
    have hk5 : ¬ (k = 2 ∧ v = key) := fun z => by rw [if_pos z] at c_5; exact absurd c_5 (by decide)
    exact W_mono MQ_X (W.vret hx hb hr (fun t ht _ => pq_ret (by first | (rw [pe_n hk5]; rfl) | (rw [pe_y hk5, ]; rfl)) rfl (by rw [ht]; exact hI) (hS.F ht)) hS.2.2 dX2_perhaps_33)
  · skip
    have hk5 : k = 2 ∧ v = key := Classical.byContradiction (fun z => c_5 (if_neg z))
    refine lv_aload_n hx hb dX2_perhaps_8 rfl (lv_at hl 0 rfl) ?_
    refine r_get (C := RX2) (T := TX2) (N := 8) hx hb hts in_X2 hown hK hI (cf_reader) rfl 2 (by decide) (hts _ q261) (fun _ h => h) rfl dX2_perhaps_9 ?_
    refine r_getN (C := RX4) (T := TX4) (N := 7) hx hb hts in_X4 hown hK hI (cf_W (w := 3) (by decide)) rfl 2 (by decide) (nf_6 hK) (fun _ h => h) rfl dX2_perhaps_12 ?_
    refine lv_iload_n hx hb dX2_perhaps_15 rfl (lv_at hl 2 rfl) ?_
    refine n_aaldI (f := fun r => L (11 * 3 + 3 + r)) (k := r) hx hb hK hI (cf_glove (w := 3) (by decide)) (rfl) (by omega) (by decide) dX2_perhaps_16 ?_
    refine lv_aload_n hx hb dX2_perhaps_17 rfl (lv_at hl 0 rfl) ?_
    refine r_get (C := RX2) (T := TX2) (N := 8) hx hb hts in_X2 hown hK hI (cf_reader) rfl 2 (by decide) (hts _ q261) (fun _ h => h) rfl dX2_perhaps_18 ?_
    refine r_getN (v := .int (nI (wN w))) (C := RX4) (T := TX4) (N := 7) hx hb hts in_X4 hown hK hI (cf_W (w := 3) (by decide)) rfl 1 (by decide) (nf_3 hK) (fun _ h => h) (rdv ((congrFun (congrFun (rd_w x w a b k v) 1) 0).trans (wOk.n hs.1).1)) dX2_perhaps_21 ?_
    refine lv_iconst (v := 1) hx hb dX2_perhaps_24 (by decide) ?_
    refine lv_isub hx hb dX2_perhaps_25 ?_
    refine lv_aload_n hx hb dX2_perhaps_26 rfl (lv_at hl 0 rfl) ?_
    refine lv_iconst (v := 0) hx hb dX2_perhaps_27 (by decide) ?_
    refine lv_iload_n hx hb dX2_perhaps_28 rfl (lv_at hl 3 rfl) ?_
    rcases hq1 : behP (x.2.1 2) n h (w, a, b, k, v) with bq | ⟨z1, w1, a1, b1, k1, v1⟩
    · exact x_thrP (k_XP (n := 2) (As := [.int 0, .int hv]) (rest := [.int ((nI (wN w)) - (1 : Int32)), .ref (L (11 * 3 + 3 + r))]) F (k_X2_behind x n hR hσ w a b k v hs hv h hh) ⟨rfl, rfl⟩ ⟨Nat.le_of_ble_eq_true rfl, Nat.le_of_ble_eq_true rfl⟩ q1033 q1035 qs37 q96 q1036 (by decide +kernel) hI hK hSS hS (hw.recv hI hK (cf_reader) rfl) rfl hl.1 rfl (Nat.le_of_ble_eq_true rfl) dX2_perhaps_29 ⟨Nat.le_of_ble_eq_true rfl, Nat.le_of_ble_eq_true rfl⟩) (by rw [hq1]; rfl) hS hlocks hout (jk_rd _ _ _) (by rw [pe_y hk5, hq1]; rfl)
    · skip
      refine x_retP (k_XP (n := 2) (As := [.int 0, .int hv]) (rest := [.int ((nI (wN w)) - (1 : Int32)), .ref (L (11 * 3 + 3 + r))]) F (k_X2_behind x n hR hσ w a b k v hs hv h hh) ⟨rfl, rfl⟩ ⟨Nat.le_of_ble_eq_true rfl, Nat.le_of_ble_eq_true rfl⟩ q1033 q1035 qs37 q96 q1036 (by decide +kernel) hI hK hSS hS (hw.recv hI hK (cf_reader) rfl) rfl hl.1 rfl (Nat.le_of_ble_eq_true rfl) dX2_perhaps_29 ⟨Nat.le_of_ble_eq_true rfl, Nat.le_of_ble_eq_true rfl⟩) (by rw [hq1]; rfl) hS (fun H1 locs1 hI hS => ?_)
      obtain ⟨hs1, hw1, hz1, hg1⟩ := beh_ok hrN hs hq1
      have hz1 : z1 < _ := hz1
      have hw1 : w = w1 := hw1.symm
      subst hw1
      have hv1 : k1 = 1 ∨ k1 = 2 → v1 < 1000000 := hs1.2.2.2
      have ha1 : a1 ≤ n := hs1.2.1
      have hk1 : k1 < 4 := hs1.2.2.1
      refine n_iast (cf' := cfC D L (xs (rdX x (w, a1, b1, k1, v1)) 3 (u2 ((rdX x (w, a1, b1, k1, v1)).1 3) (2 + r) (wN w - 1) (nI z1)))) (k := (wN w - 1)) hx hb hK hI hS (cf_row (w := 3) (r := r) (by decide) (by omega)) (nI_suba (b := 1) hwp) (by omega) (by decide) (cs_row (w := 3) (r := r) (by decide) (by omega)) dX2_perhaps_32 (fun H1 locs1 hI hS => ?_)
      rw [rd_w, rd_xs] at hI
      exact W_mono MQ_X (W.vret hx hb hr (fun t ht _ => pq_ret (by first | (rw [pe_n hk5]; rfl) | (rw [pe_y hk5, hq1]; rfl)) rfl (by rw [ht]; exact hI) (hS.F ht)) hS.2.2 dX2_perhaps_33)
theorem k_X2_glove {l : Launch} {D : va_G} {L : Nat → Nat} {A : Nat → Prop} {σ : Nat × Nat × Value} (x : cst) (n : Nat) (hR : rOk x n) (hσ : σ.2.2 = .null ∨ ∃ a, σ.2.2 = .ref a) (w : wd) (a b k v : Nat) (hs : psOk n (w, a, b, k, v)) (kd : Nat) (hkd : kd < 7) : MetX l yX2_glove (ws_ yX2_glove cX2_glove 2 none) ({ frames := 10, cells := 0, slots := 0, locals := 219 } : Room) (va_Pc [.ref (L 46), .int (nI kd)] (pS D (cfC D L (rdX x (w, a, b, k, v))) A σ)) (pQ D L (rdX x (w, a, b, k, v)) A (vR x (gloP (x.2.1 2) n kd (w, a, b, k, v)))) A := by
  refine met_XS (by decide) rfl (Nat.le_of_ble_eq_true rfl) ?_
  intro p e s m below meth c ls hx hb hr hml hown hts hlocks hl hI hK hSS hout
  have F : CallFix p m c cX2_glove 2 s _ lw_all RX2 := ⟨hx, hb, hml, hown, hts⟩
  have hl : lv_has ls 2 [(0, .ref (L 46)), (1, .int (nI kd))] := hl
  have hS : va_S A s.heap s.heap [] := va_S.rf
  obtain ⟨hrn, hrN, hrt⟩ := id hR
  obtain ⟨ho0, ha0, hk0, hv0⟩ : wOk w ∧ a ≤ n ∧ k < 4 ∧ (k = 1 ∨ k = 2 → v < 1000000) := ⟨hs.1, hs.2.1, hs.2.2.1, hs.2.2.2⟩
  have hw8 : wN w ≤ 8 := (wOk.n hs.1).2
  refine lv_aload_n hx hb dX2_glove_0 rfl (lv_at hl 0 rfl) ?_
  refine lv_aload_n hx hb dX2_glove_1 rfl (lv_at hl 0 rfl) ?_
  refine r_get (C := RX2) (T := TX2) (N := 8) hx hb hts in_X2 hown hK hI (cf_reader) rfl 2 (by decide) (hts _ q261) (fun _ h => h) rfl dX2_glove_2 ?_
  refine r_getN (v := .int (nI (wN w))) (C := RX4) (T := TX4) (N := 7) hx hb hts in_X4 hown hK hI (cf_W (w := 3) (by decide)) rfl 1 (by decide) (nf_3 hK) (fun _ h => h) (rdv ((congrFun (congrFun (rd_w x w a b k v) 1) 0).trans (wOk.n hs.1).1)) dX2_glove_5 ?_
  refine lv_bipush (v := 8) hx hb dX2_glove_8 (by decide) ?_
  refine lv_icmp_ge (tgt := 17) hx hb dX2_glove_10 (by decide) (fun c_10 => ?_) (fun c_10 => ?_)
  · skip
    have c_10 : 8 ≤ wN w := (nle (a := 8) (b := wN w) (rfl) (rfl) (by omega) (by omega)).mp c_10
    refine lv_iconst (v := 0) hx hb dX2_glove_17 (by decide) ?_
    exact x_thrP (k_XP (n := 1) (As := [.int 0]) (rest := []) F (k_X2_need_0 x n hR hσ w a b k v) ⟨rfl, rfl⟩ ⟨Nat.le_of_ble_eq_true rfl, Nat.le_of_ble_eq_true rfl⟩ q1013 q1015 qs33 q96 q1016 (by decide +kernel) hI hK hSS hS (hw.recv hI hK (cf_reader) rfl) rfl hl.1 rfl (Nat.le_of_ble_eq_true rfl) dX2_glove_18 ⟨Nat.le_of_ble_eq_true rfl, Nat.le_of_ble_eq_true rfl⟩) rfl hS hlocks hout (jk_rd _ _ _) (by rw [gl_n (by omega)]; rfl)
  · skip
    have c_10 : ¬ 8 ≤ wN w := fun z => c_10 ((nle (a := 8) (b := wN w) (rfl) (rfl) (by omega) (by omega)).mpr z)
    refine lv_iconst (v := 1) hx hb dX2_glove_13 (by decide) ?_
    refine lv_goto (tgt := 18) hx hb dX2_glove_14 (by decide) ?_
    refine c_m (k_V (As := [.int 1]) (rest := []) F (k_X2_need_1 x n hR w a b k v) (cwV 1 hts (lw_V q1013 q1015 qs33 q96 q1016) rfl rfl rfl (by decide +kernel) ⟨Nat.le_of_ble_eq_true rfl, Nat.le_of_ble_eq_true rfl⟩) hI hK (hw.recv hI hK (cf_reader) rfl) rfl hl.1 rfl (Nat.le_of_ble_eq_true rfl) dX2_glove_18 ⟨Nat.le_of_ble_eq_true rfl, Nat.le_of_ble_eq_true rfl⟩) hS (fun H1 locs1 hI hS => ?_)
    refine lv_aload_n hx hb dX2_glove_21 rfl (lv_at hl 0 rfl) ?_
    rcases hq1 : nextP (x.2.1 2) n (w, a, b, k, v) with bq | ⟨w1, a1, b1, k1, v1⟩
    · exact x_thrP (k_XP (n := 0) (As := []) (rest := []) F (k_X2_next x n hR hσ w a b k v (psOk.w hs)) ⟨rfl, rfl⟩ ⟨Nat.le_of_ble_eq_true rfl, Nat.le_of_ble_eq_true rfl⟩ q952 q954 qs29 q96 q955 (by decide +kernel) hI hK hSS hS (hw.recv hI hK (cf_reader) rfl) rfl hl.1 rfl (Nat.le_of_ble_eq_true rfl) dX2_glove_22 ⟨Nat.le_of_ble_eq_true rfl, Nat.le_of_ble_eq_true rfl⟩) (by rw [hq1]; rfl) hS hlocks hout (jk_rd _ _ _) (by first | (simp only [gloP, if_pos (show wN w < 8 by omega), hq1]; done) | (simp only [gloP, if_pos (show wN w < 8 by omega), hq1]; rfl) | (simp only [gloP, if_pos (show wN w < 8 by omega), gl_1 hk36, hq1]; rfl) | (simp only [gloP, if_pos (show wN w < 8 by omega), gl_1 hk36, ← ew9, hq1]; rfl) | (simp only [gloP, if_pos (show wN w < 8 by omega), gl_0 hk36, ← ew9, hq1]; rfl))
    · skip
      refine x_retP (k_XP (n := 0) (As := []) (rest := []) F (k_X2_next x n hR hσ w a b k v (psOk.w hs)) ⟨rfl, rfl⟩ ⟨Nat.le_of_ble_eq_true rfl, Nat.le_of_ble_eq_true rfl⟩ q952 q954 qs29 q96 q955 (by decide +kernel) hI hK hSS hS (hw.recv hI hK (cf_reader) rfl) rfl hl.1 rfl (Nat.le_of_ble_eq_true rfl) dX2_glove_22 ⟨Nat.le_of_ble_eq_true rfl, Nat.le_of_ble_eq_true rfl⟩) (by rw [hq1]; rfl) hS (fun H1 locs1 hI hS => ?_)
      obtain ⟨hs1, hw1, hm1, hg1, hn1⟩ := next_ok hrN (psOk.w hs) hq1
      have hw1 : w = w1 := hw1.symm
      subst hw1
      have hv1 : k1 = 1 ∨ k1 = 2 → v1 < 1000000 := hs1.2.2.2
      have ha1 : a1 ≤ n := hs1.2.1
      have hk1 : k1 < 4 := hs1.2.2.1
      refine lv_aload_n hx hb dX2_glove_25 rfl (lv_at hl 0 rfl) ?_
      refine r_get (C := RX2) (T := TX2) (N := 8) hx hb hts in_X2 hown hK hI (cf_reader) rfl 2 (by decide) (hts _ q261) (fun _ h => h) rfl dX2_glove_26 ?_
      refine lv_iload_n hx hb dX2_glove_29 rfl (lv_at hl 1 rfl) ?_
      refine lv_aload_n hx hb dX2_glove_30 rfl (lv_at hl 0 rfl) ?_
      refine lv_bipush (v := 9) hx hb dX2_glove_31 (by decide) ?_
      refine c_r (k_V (As := [.int 9]) (rest := [.int (nI kd), .ref (L (11 * 3))]) F (k_X2_isWord x n hR w a1 b1 k1 v1 hs1 9 (by omega)) (cwV 1 hts (lw_V q1051 q1053 qs41 q96 q1054) rfl rfl rfl (by decide +kernel) ⟨Nat.le_of_ble_eq_true rfl, Nat.le_of_ble_eq_true rfl⟩) hI hK (hw.recv hI hK (cf_reader) rfl) rfl hl.1 rfl (Nat.le_of_ble_eq_true rfl) dX2_glove_33 ⟨Nat.le_of_ble_eq_true rfl, Nat.le_of_ble_eq_true rfl⟩) ?_
      refine lv_if_eq (tgt := 48) hx hb dX2_glove_36 (by decide) (fun c_36 => ?_) (fun c_36 => ?_)
      · skip
        have hk36 : ¬ (k1 = 2 ∧ v1 = 9) := fun z => by rw [if_pos z] at c_36; exact absurd c_36 (by decide)
        refine lv_iconst (v := 0) hx hb dX2_glove_48 (by decide) ?_
        refine c_m (k_V (As := [.int (nI kd), .int 0]) (rest := []) F (k_X4_add (rdX x (w, a1, b1, k1, v1)) 3 (by decide) (by rw [rd_w]; exact hs1.1) (nI kd) (0 : Int32) (by rw [rd_w]; omega)) (cwV 2 hts (lw_V q1055 q536 q537 q98 q538) rfl rfl rfl (by decide +kernel) ⟨Nat.le_of_ble_eq_true rfl, Nat.le_of_ble_eq_true rfl⟩) hI hK (hw.recv hI hK (cf_W (w := 3) (by decide)) rfl) rfl hl.1 rfl (Nat.le_of_ble_eq_true rfl) dX2_glove_49 ⟨Nat.le_of_ble_eq_true rfl, Nat.le_of_ble_eq_true rfl⟩) hS (fun H1 locs1 hI hS => ?_)
        rw [rd_w, rd_xs] at hI
        obtain ⟨w9, ew9⟩ : ∃ z, z = addw w (nI kd) (nI 0) := ⟨_, rfl⟩
        have hI : hw D (cfC D L (rdX x (w9, a1, b1, k1, v1))) A H1 := by rw [ew9]; exact hI
        have hs9 : psOk n (w9, a1, b1, k1, v1) := by rw [ew9]; exact ⟨wOk_add hs1.1 ⟨_, (by omega), rfl⟩ ⟨0, (by omega), rfl⟩ (show wN w < 8 by omega), hs1.2⟩
        have hw9 : wN w9 = wN w + 1 := by rw [ew9]; exact wN_add (by omega)
        refine lv_aload_n hx hb dX2_glove_52 rfl (lv_at hl 0 rfl) ?_
        refine lv_bipush (v := 10) hx hb dX2_glove_53 (by decide) ?_
        refine lv_iconst (v := 2) hx hb dX2_glove_55 (by decide) ?_
        refine lv_bipush (v := 9) hx hb dX2_glove_56 (by decide) ?_
        rcases hq2 : perP (x.2.1 2) n 10 2 10 (w9, a1, b1, k1, v1) with bq | ⟨w2, a2, b2, k2, v2⟩
        · exact x_thrP (k_XP (n := 3) (As := [.int 10, .int 2, .int 9]) (rest := []) F (k_X2_perhaps x n hR hσ w9 a1 b1 k1 v1 hs9 9 10 (hi_l rfl (by decide)) 10 2 (by decide) (Or.inl ⟨rfl, rfl⟩) (by omega)) ⟨rfl, rfl⟩ ⟨Nat.le_of_ble_eq_true rfl, Nat.le_of_ble_eq_true rfl⟩ q1056 q1058 qs42 q96 q1059 (by decide +kernel) hI hK hSS hS (hw.recv hI hK (cf_reader) rfl) rfl hl.1 rfl (Nat.le_of_ble_eq_true rfl) dX2_glove_58 ⟨Nat.le_of_ble_eq_true rfl, Nat.le_of_ble_eq_true rfl⟩) (by rw [hq2]; rfl) hS hlocks hout (jk_rd _ _ _) (by first | (simp only [gloP, if_pos (show wN w < 8 by omega), hq1, hq2]; done) | (simp only [gloP, if_pos (show wN w < 8 by omega), hq1, hq2]; rfl) | (simp only [gloP, if_pos (show wN w < 8 by omega), gl_1 hk36, hq1, hq2]; rfl) | (simp only [gloP, if_pos (show wN w < 8 by omega), gl_1 hk36, ← ew9, hq1, hq2]; rfl) | (simp only [gloP, if_pos (show wN w < 8 by omega), gl_0 hk36, ← ew9, hq1, hq2]; rfl))
        · skip
          refine x_retP (k_XP (n := 3) (As := [.int 10, .int 2, .int 9]) (rest := []) F (k_X2_perhaps x n hR hσ w9 a1 b1 k1 v1 hs9 9 10 (hi_l rfl (by decide)) 10 2 (by decide) (Or.inl ⟨rfl, rfl⟩) (by omega)) ⟨rfl, rfl⟩ ⟨Nat.le_of_ble_eq_true rfl, Nat.le_of_ble_eq_true rfl⟩ q1056 q1058 qs42 q96 q1059 (by decide +kernel) hI hK hSS hS (hw.recv hI hK (cf_reader) rfl) rfl hl.1 rfl (Nat.le_of_ble_eq_true rfl) dX2_glove_58 ⟨Nat.le_of_ble_eq_true rfl, Nat.le_of_ble_eq_true rfl⟩) (by rw [hq2]; rfl) hS (fun H1 locs1 hI hS => ?_)
          obtain ⟨hs2, hw2, hg2⟩ := per_ok hrN hs9 (Or.inl ⟨rfl, rfl⟩) hq2
          have hw2 : wN w2 = wN w9 := hw2
          have hv2 : k2 = 1 ∨ k2 = 2 → v2 < 1000000 := hs2.2.2.2
          have ha2 : a2 ≤ n := hs2.2.1
          have hk2 : k2 < 4 := hs2.2.2.1
          refine lv_aload_n hx hb dX2_glove_61 rfl (lv_at hl 0 rfl) ?_
          refine lv_bipush (v := 11) hx hb dX2_glove_62 (by decide) ?_
          refine lv_iconst (v := 3) hx hb dX2_glove_64 (by decide) ?_
          refine lv_ldc (v := 65535) hx hb hown (hts _ q1046) dX2_glove_65 ?_
          rcases hq3 : perP (x.2.1 2) n 11 3 65536 (w2, a2, b2, k2, v2) with bq | ⟨w3, a3, b3, k3, v3⟩
          · exact x_thrP (k_XP (n := 3) (As := [.int 11, .int 3, .int 65535]) (rest := []) F (k_X2_perhaps x n hR hσ w2 a2 b2 k2 v2 hs2 65535 65536 (hi_l rfl (by decide)) 11 3 (by decide) (Or.inr (Or.inl ⟨rfl, rfl⟩)) (by omega)) ⟨rfl, rfl⟩ ⟨Nat.le_of_ble_eq_true rfl, Nat.le_of_ble_eq_true rfl⟩ q1056 q1058 qs42 q96 q1059 (by decide +kernel) hI hK hSS hS (hw.recv hI hK (cf_reader) rfl) rfl hl.1 rfl (Nat.le_of_ble_eq_true rfl) dX2_glove_67 ⟨Nat.le_of_ble_eq_true rfl, Nat.le_of_ble_eq_true rfl⟩) (by rw [hq3]; rfl) hS hlocks hout (jk_rd _ _ _) (by first | (simp only [gloP, if_pos (show wN w < 8 by omega), hq1, hq2, hq3]; done) | (simp only [gloP, if_pos (show wN w < 8 by omega), hq1, hq2, hq3]; rfl) | (simp only [gloP, if_pos (show wN w < 8 by omega), gl_1 hk36, hq1, hq2, hq3]; rfl) | (simp only [gloP, if_pos (show wN w < 8 by omega), gl_1 hk36, ← ew9, hq1, hq2, hq3]; rfl) | (simp only [gloP, if_pos (show wN w < 8 by omega), gl_0 hk36, ← ew9, hq1, hq2, hq3]; rfl))
          · skip
            refine x_retP (k_XP (n := 3) (As := [.int 11, .int 3, .int 65535]) (rest := []) F (k_X2_perhaps x n hR hσ w2 a2 b2 k2 v2 hs2 65535 65536 (hi_l rfl (by decide)) 11 3 (by decide) (Or.inr (Or.inl ⟨rfl, rfl⟩)) (by omega)) ⟨rfl, rfl⟩ ⟨Nat.le_of_ble_eq_true rfl, Nat.le_of_ble_eq_true rfl⟩ q1056 q1058 qs42 q96 q1059 (by decide +kernel) hI hK hSS hS (hw.recv hI hK (cf_reader) rfl) rfl hl.1 rfl (Nat.le_of_ble_eq_true rfl) dX2_glove_67 ⟨Nat.le_of_ble_eq_true rfl, Nat.le_of_ble_eq_true rfl⟩) (by rw [hq3]; rfl) hS (fun H1 locs1 hI hS => ?_)
            obtain ⟨hs3, hw3, hg3⟩ := per_ok hrN hs2 (Or.inr (Or.inl ⟨rfl, rfl⟩)) hq3
            have hw3 : wN w3 = wN w2 := hw3
            have hv3 : k3 = 1 ∨ k3 = 2 → v3 < 1000000 := hs3.2.2.2
            have ha3 : a3 ≤ n := hs3.2.1
            have hk3 : k3 < 4 := hs3.2.2.1
            refine lv_aload_n hx hb dX2_glove_70 rfl (lv_at hl 0 rfl) ?_
            refine lv_bipush (v := 12) hx hb dX2_glove_71 (by decide) ?_
            refine lv_iconst (v := 4) hx hb dX2_glove_73 (by decide) ?_
            refine lv_sipush (v := 9999) hx hb dX2_glove_74 (by decide) ?_
            rcases hq4 : perP (x.2.1 2) n 12 4 10000 (w3, a3, b3, k3, v3) with bq | ⟨w4, a4, b4, k4, v4⟩
            · exact x_thrP (k_XP (n := 3) (As := [.int 12, .int 4, .int 9999]) (rest := []) F (k_X2_perhaps x n hR hσ w3 a3 b3 k3 v3 hs3 9999 10000 (hi_l rfl (by decide)) 12 4 (by decide) (Or.inr (Or.inr ⟨rfl, rfl⟩)) (by omega)) ⟨rfl, rfl⟩ ⟨Nat.le_of_ble_eq_true rfl, Nat.le_of_ble_eq_true rfl⟩ q1056 q1058 qs42 q96 q1059 (by decide +kernel) hI hK hSS hS (hw.recv hI hK (cf_reader) rfl) rfl hl.1 rfl (Nat.le_of_ble_eq_true rfl) dX2_glove_77 ⟨Nat.le_of_ble_eq_true rfl, Nat.le_of_ble_eq_true rfl⟩) (by rw [hq4]; rfl) hS hlocks hout (jk_rd _ _ _) (by first | (simp only [gloP, if_pos (show wN w < 8 by omega), hq1, hq2, hq3, hq4]; done) | (simp only [gloP, if_pos (show wN w < 8 by omega), hq1, hq2, hq3, hq4]; rfl) | (simp only [gloP, if_pos (show wN w < 8 by omega), gl_1 hk36, hq1, hq2, hq3, hq4]; rfl) | (simp only [gloP, if_pos (show wN w < 8 by omega), gl_1 hk36, ← ew9, hq1, hq2, hq3, hq4]; rfl) | (simp only [gloP, if_pos (show wN w < 8 by omega), gl_0 hk36, ← ew9, hq1, hq2, hq3, hq4]; rfl))
            · skip
              refine x_retP (k_XP (n := 3) (As := [.int 12, .int 4, .int 9999]) (rest := []) F (k_X2_perhaps x n hR hσ w3 a3 b3 k3 v3 hs3 9999 10000 (hi_l rfl (by decide)) 12 4 (by decide) (Or.inr (Or.inr ⟨rfl, rfl⟩)) (by omega)) ⟨rfl, rfl⟩ ⟨Nat.le_of_ble_eq_true rfl, Nat.le_of_ble_eq_true rfl⟩ q1056 q1058 qs42 q96 q1059 (by decide +kernel) hI hK hSS hS (hw.recv hI hK (cf_reader) rfl) rfl hl.1 rfl (Nat.le_of_ble_eq_true rfl) dX2_glove_77 ⟨Nat.le_of_ble_eq_true rfl, Nat.le_of_ble_eq_true rfl⟩) (by rw [hq4]; rfl) hS (fun H1 locs1 hI hS => ?_)
              obtain ⟨hs4, hw4, hg4⟩ := per_ok hrN hs3 (Or.inr (Or.inr ⟨rfl, rfl⟩)) hq4
              have hw4 : wN w4 = wN w3 := hw4
              have hv4 : k4 = 1 ∨ k4 = 2 → v4 < 1000000 := hs4.2.2.2
              have ha4 : a4 ≤ n := hs4.2.1
              have hk4 : k4 < 4 := hs4.2.2.1
              exact W_mono MQ_X (W.vret hx hb hr (fun t ht _ => pq_ret (by first | (simp only [gloP, if_pos (show wN w < 8 by omega), gl_1 hk36, ← ew9, hq1, hq2, hq3, hq4]; rfl) | (simp only [gloP, if_pos (show wN w < 8 by omega), gl_0 hk36, ← ew9, hq1, hq2, hq3, hq4]; rfl)) rfl (by rw [ht]; exact hI) (hS.F ht)) hS.2.2 dX2_glove_80)
      · skip
        have hk36 : k1 = 2 ∧ v1 = 9 := Classical.byContradiction (fun z => c_36 (if_neg z))
        refine lv_aload_n hx hb dX2_glove_39 rfl (lv_at hl 0 rfl) ?_
        refine lv_iconst (v := 0) hx hb dX2_glove_40 (by decide) ?_
        refine lv_iconst (v := 5) hx hb dX2_glove_41 (by decide) ?_
        rcases hq5 : behP (x.2.1 2) n 6 (w, a1, b1, k1, v1) with bq | ⟨z5, w5, a5, b5, k5, v5⟩
        · exact x_thrP (k_XP (n := 2) (As := [.int 0, .int 5]) (rest := [.int (nI kd), .ref (L (11 * 3))]) F (k_X2_behind x n hR hσ w a1 b1 k1 v1 hs1 5 6 (hi_l rfl (by decide))) ⟨rfl, rfl⟩ ⟨Nat.le_of_ble_eq_true rfl, Nat.le_of_ble_eq_true rfl⟩ q1033 q1035 qs37 q96 q1036 (by decide +kernel) hI hK hSS hS (hw.recv hI hK (cf_reader) rfl) rfl hl.1 rfl (Nat.le_of_ble_eq_true rfl) dX2_glove_42 ⟨Nat.le_of_ble_eq_true rfl, Nat.le_of_ble_eq_true rfl⟩) (by rw [hq5]; rfl) hS hlocks hout (jk_rd _ _ _) (by first | (simp only [gloP, if_pos (show wN w < 8 by omega), hq1, hq5]; done) | (simp only [gloP, if_pos (show wN w < 8 by omega), hq1, hq5]; rfl) | (simp only [gloP, if_pos (show wN w < 8 by omega), gl_1 hk36, hq1, hq5]; rfl) | (simp only [gloP, if_pos (show wN w < 8 by omega), gl_1 hk36, ← ew9, hq1, hq5]; rfl) | (simp only [gloP, if_pos (show wN w < 8 by omega), gl_0 hk36, ← ew9, hq1, hq5]; rfl))
        · skip
          refine x_retP (k_XP (n := 2) (As := [.int 0, .int 5]) (rest := [.int (nI kd), .ref (L (11 * 3))]) F (k_X2_behind x n hR hσ w a1 b1 k1 v1 hs1 5 6 (hi_l rfl (by decide))) ⟨rfl, rfl⟩ ⟨Nat.le_of_ble_eq_true rfl, Nat.le_of_ble_eq_true rfl⟩ q1033 q1035 qs37 q96 q1036 (by decide +kernel) hI hK hSS hS (hw.recv hI hK (cf_reader) rfl) rfl hl.1 rfl (Nat.le_of_ble_eq_true rfl) dX2_glove_42 ⟨Nat.le_of_ble_eq_true rfl, Nat.le_of_ble_eq_true rfl⟩) (by rw [hq5]; rfl) hS (fun H1 locs1 hI hS => ?_)
          obtain ⟨hs5, hw5, hz5, hg5⟩ := beh_ok hrN hs1 hq5
          have hz5 : z5 < _ := hz5
          have hw5 : w = w5 := hw5.symm
          subst hw5
          have hv5 : k5 = 1 ∨ k5 = 2 → v5 < 1000000 := hs5.2.2.2
          have ha5 : a5 ≤ n := hs5.2.1
          have hk5 : k5 < 4 := hs5.2.2.1
          refine lv_goto (tgt := 49) hx hb dX2_glove_45 (by decide) ?_
          refine c_m (k_V (As := [.int (nI kd), .int (nI z5)]) (rest := []) F (k_X4_add (rdX x (w, a5, b5, k5, v5)) 3 (by decide) (by rw [rd_w]; exact hs5.1) (nI kd) (nI z5) (by rw [rd_w]; omega)) (cwV 2 hts (lw_V q1055 q536 q537 q98 q538) rfl rfl rfl (by decide +kernel) ⟨Nat.le_of_ble_eq_true rfl, Nat.le_of_ble_eq_true rfl⟩) hI hK (hw.recv hI hK (cf_W (w := 3) (by decide)) rfl) rfl hl.1 rfl (Nat.le_of_ble_eq_true rfl) dX2_glove_49 ⟨Nat.le_of_ble_eq_true rfl, Nat.le_of_ble_eq_true rfl⟩) hS (fun H1 locs1 hI hS => ?_)
          rw [rd_w, rd_xs] at hI
          obtain ⟨w9, ew9⟩ : ∃ z, z = addw w (nI kd) (nI z5) := ⟨_, rfl⟩
          have hI : hw D (cfC D L (rdX x (w9, a5, b5, k5, v5))) A H1 := by rw [ew9]; exact hI
          have hs9 : psOk n (w9, a5, b5, k5, v5) := by rw [ew9]; exact ⟨wOk_add hs5.1 ⟨_, (by omega), rfl⟩ ⟨z5, (by omega), rfl⟩ (show wN w < 8 by omega), hs5.2⟩
          have hw9 : wN w9 = wN w + 1 := by rw [ew9]; exact wN_add (by omega)
          refine lv_aload_n hx hb dX2_glove_52 rfl (lv_at hl 0 rfl) ?_
          refine lv_bipush (v := 10) hx hb dX2_glove_53 (by decide) ?_
          refine lv_iconst (v := 2) hx hb dX2_glove_55 (by decide) ?_
          refine lv_bipush (v := 9) hx hb dX2_glove_56 (by decide) ?_
          rcases hq6 : perP (x.2.1 2) n 10 2 10 (w9, a5, b5, k5, v5) with bq | ⟨w6, a6, b6, k6, v6⟩
          · exact x_thrP (k_XP (n := 3) (As := [.int 10, .int 2, .int 9]) (rest := []) F (k_X2_perhaps x n hR hσ w9 a5 b5 k5 v5 hs9 9 10 (hi_l rfl (by decide)) 10 2 (by decide) (Or.inl ⟨rfl, rfl⟩) (by omega)) ⟨rfl, rfl⟩ ⟨Nat.le_of_ble_eq_true rfl, Nat.le_of_ble_eq_true rfl⟩ q1056 q1058 qs42 q96 q1059 (by decide +kernel) hI hK hSS hS (hw.recv hI hK (cf_reader) rfl) rfl hl.1 rfl (Nat.le_of_ble_eq_true rfl) dX2_glove_58 ⟨Nat.le_of_ble_eq_true rfl, Nat.le_of_ble_eq_true rfl⟩) (by rw [hq6]; rfl) hS hlocks hout (jk_rd _ _ _) (by first | (simp only [gloP, if_pos (show wN w < 8 by omega), hq1, hq5, hq6]; done) | (simp only [gloP, if_pos (show wN w < 8 by omega), hq1, hq5, hq6]; rfl) | (simp only [gloP, if_pos (show wN w < 8 by omega), gl_1 hk36, hq1, hq5, hq6]; rfl) | (simp only [gloP, if_pos (show wN w < 8 by omega), gl_1 hk36, ← ew9, hq1, hq5, hq6]; rfl) | (simp only [gloP, if_pos (show wN w < 8 by omega), gl_0 hk36, ← ew9, hq1, hq5, hq6]; rfl))
          · skip
            refine x_retP (k_XP (n := 3) (As := [.int 10, .int 2, .int 9]) (rest := []) F (k_X2_perhaps x n hR hσ w9 a5 b5 k5 v5 hs9 9 10 (hi_l rfl (by decide)) 10 2 (by decide) (Or.inl ⟨rfl, rfl⟩) (by omega)) ⟨rfl, rfl⟩ ⟨Nat.le_of_ble_eq_true rfl, Nat.le_of_ble_eq_true rfl⟩ q1056 q1058 qs42 q96 q1059 (by decide +kernel) hI hK hSS hS (hw.recv hI hK (cf_reader) rfl) rfl hl.1 rfl (Nat.le_of_ble_eq_true rfl) dX2_glove_58 ⟨Nat.le_of_ble_eq_true rfl, Nat.le_of_ble_eq_true rfl⟩) (by rw [hq6]; rfl) hS (fun H1 locs1 hI hS => ?_)
            obtain ⟨hs6, hw6, hg6⟩ := per_ok hrN hs9 (Or.inl ⟨rfl, rfl⟩) hq6
            have hw6 : wN w6 = wN w9 := hw6
            have hv6 : k6 = 1 ∨ k6 = 2 → v6 < 1000000 := hs6.2.2.2
            have ha6 : a6 ≤ n := hs6.2.1
            have hk6 : k6 < 4 := hs6.2.2.1
            refine lv_aload_n hx hb dX2_glove_61 rfl (lv_at hl 0 rfl) ?_
            refine lv_bipush (v := 11) hx hb dX2_glove_62 (by decide) ?_
            refine lv_iconst (v := 3) hx hb dX2_glove_64 (by decide) ?_
            refine lv_ldc (v := 65535) hx hb hown (hts _ q1046) dX2_glove_65 ?_
            rcases hq7 : perP (x.2.1 2) n 11 3 65536 (w6, a6, b6, k6, v6) with bq | ⟨w7, a7, b7, k7, v7⟩
            · exact x_thrP (k_XP (n := 3) (As := [.int 11, .int 3, .int 65535]) (rest := []) F (k_X2_perhaps x n hR hσ w6 a6 b6 k6 v6 hs6 65535 65536 (hi_l rfl (by decide)) 11 3 (by decide) (Or.inr (Or.inl ⟨rfl, rfl⟩)) (by omega)) ⟨rfl, rfl⟩ ⟨Nat.le_of_ble_eq_true rfl, Nat.le_of_ble_eq_true rfl⟩ q1056 q1058 qs42 q96 q1059 (by decide +kernel) hI hK hSS hS (hw.recv hI hK (cf_reader) rfl) rfl hl.1 rfl (Nat.le_of_ble_eq_true rfl) dX2_glove_67 ⟨Nat.le_of_ble_eq_true rfl, Nat.le_of_ble_eq_true rfl⟩) (by rw [hq7]; rfl) hS hlocks hout (jk_rd _ _ _) (by first | (simp only [gloP, if_pos (show wN w < 8 by omega), hq1, hq5, hq6, hq7]; done) | (simp only [gloP, if_pos (show wN w < 8 by omega), hq1, hq5, hq6, hq7]; rfl) | (simp only [gloP, if_pos (show wN w < 8 by omega), gl_1 hk36, hq1, hq5, hq6, hq7]; rfl) | (simp only [gloP, if_pos (show wN w < 8 by omega), gl_1 hk36, ← ew9, hq1, hq5, hq6, hq7]; rfl) | (simp only [gloP, if_pos (show wN w < 8 by omega), gl_0 hk36, ← ew9, hq1, hq5, hq6, hq7]; rfl))
            · skip
              refine x_retP (k_XP (n := 3) (As := [.int 11, .int 3, .int 65535]) (rest := []) F (k_X2_perhaps x n hR hσ w6 a6 b6 k6 v6 hs6 65535 65536 (hi_l rfl (by decide)) 11 3 (by decide) (Or.inr (Or.inl ⟨rfl, rfl⟩)) (by omega)) ⟨rfl, rfl⟩ ⟨Nat.le_of_ble_eq_true rfl, Nat.le_of_ble_eq_true rfl⟩ q1056 q1058 qs42 q96 q1059 (by decide +kernel) hI hK hSS hS (hw.recv hI hK (cf_reader) rfl) rfl hl.1 rfl (Nat.le_of_ble_eq_true rfl) dX2_glove_67 ⟨Nat.le_of_ble_eq_true rfl, Nat.le_of_ble_eq_true rfl⟩) (by rw [hq7]; rfl) hS (fun H1 locs1 hI hS => ?_)
              obtain ⟨hs7, hw7, hg7⟩ := per_ok hrN hs6 (Or.inr (Or.inl ⟨rfl, rfl⟩)) hq7
              have hw7 : wN w7 = wN w6 := hw7
              have hv7 : k7 = 1 ∨ k7 = 2 → v7 < 1000000 := hs7.2.2.2
              have ha7 : a7 ≤ n := hs7.2.1
              have hk7 : k7 < 4 := hs7.2.2.1
              refine lv_aload_n hx hb dX2_glove_70 rfl (lv_at hl 0 rfl) ?_
              refine lv_bipush (v := 12) hx hb dX2_glove_71 (by decide) ?_
              refine lv_iconst (v := 4) hx hb dX2_glove_73 (by decide) ?_
              refine lv_sipush (v := 9999) hx hb dX2_glove_74 (by decide) ?_
              rcases hq8 : perP (x.2.1 2) n 12 4 10000 (w7, a7, b7, k7, v7) with bq | ⟨w8, a8, b8, k8, v8⟩
              · exact x_thrP (k_XP (n := 3) (As := [.int 12, .int 4, .int 9999]) (rest := []) F (k_X2_perhaps x n hR hσ w7 a7 b7 k7 v7 hs7 9999 10000 (hi_l rfl (by decide)) 12 4 (by decide) (Or.inr (Or.inr ⟨rfl, rfl⟩)) (by omega)) ⟨rfl, rfl⟩ ⟨Nat.le_of_ble_eq_true rfl, Nat.le_of_ble_eq_true rfl⟩ q1056 q1058 qs42 q96 q1059 (by decide +kernel) hI hK hSS hS (hw.recv hI hK (cf_reader) rfl) rfl hl.1 rfl (Nat.le_of_ble_eq_true rfl) dX2_glove_77 ⟨Nat.le_of_ble_eq_true rfl, Nat.le_of_ble_eq_true rfl⟩) (by rw [hq8]; rfl) hS hlocks hout (jk_rd _ _ _) (by first | (simp only [gloP, if_pos (show wN w < 8 by omega), hq1, hq5, hq6, hq7, hq8]; done) | (simp only [gloP, if_pos (show wN w < 8 by omega), hq1, hq5, hq6, hq7, hq8]; rfl) | (simp only [gloP, if_pos (show wN w < 8 by omega), gl_1 hk36, hq1, hq5, hq6, hq7, hq8]; rfl) | (simp only [gloP, if_pos (show wN w < 8 by omega), gl_1 hk36, ← ew9, hq1, hq5, hq6, hq7, hq8]; rfl) | (simp only [gloP, if_pos (show wN w < 8 by omega), gl_0 hk36, ← ew9, hq1, hq5, hq6, hq7, hq8]; rfl))
              · skip
                refine x_retP (k_XP (n := 3) (As := [.int 12, .int 4, .int 9999]) (rest := []) F (k_X2_perhaps x n hR hσ w7 a7 b7 k7 v7 hs7 9999 10000 (hi_l rfl (by decide)) 12 4 (by decide) (Or.inr (Or.inr ⟨rfl, rfl⟩)) (by omega)) ⟨rfl, rfl⟩ ⟨Nat.le_of_ble_eq_true rfl, Nat.le_of_ble_eq_true rfl⟩ q1056 q1058 qs42 q96 q1059 (by decide +kernel) hI hK hSS hS (hw.recv hI hK (cf_reader) rfl) rfl hl.1 rfl (Nat.le_of_ble_eq_true rfl) dX2_glove_77 ⟨Nat.le_of_ble_eq_true rfl, Nat.le_of_ble_eq_true rfl⟩) (by rw [hq8]; rfl) hS (fun H1 locs1 hI hS => ?_)
                obtain ⟨hs8, hw8, hg8⟩ := per_ok hrN hs7 (Or.inr (Or.inr ⟨rfl, rfl⟩)) hq8
                have hw8 : wN w8 = wN w7 := hw8
                have hv8 : k8 = 1 ∨ k8 = 2 → v8 < 1000000 := hs8.2.2.2
                have ha8 : a8 ≤ n := hs8.2.1
                have hk8 : k8 < 4 := hs8.2.2.1
                exact W_mono MQ_X (W.vret hx hb hr (fun t ht _ => pq_ret (by first | (simp only [gloP, if_pos (show wN w < 8 by omega), gl_1 hk36, ← ew9, hq1, hq5, hq6, hq7, hq8]; rfl) | (simp only [gloP, if_pos (show wN w < 8 by omega), gl_0 hk36, ← ew9, hq1, hq5, hq6, hq7, hq8]; rfl)) rfl (by rw [ht]; exact hI) (hS.F ht)) hS.2.2 dX2_glove_80)
theorem k_X2_said {l : Launch} {D : va_G} {L : Nat → Nat} {A : Nat → Prop} {σ : Nat × Nat × Value} (x : cst) (n : Nat) (hR : rOk x n) (hσ : σ.2.2 = .null ∨ ∃ a, σ.2.2 = .ref a) (w : wd) (a b k v : Nat) (hs : psOk n (w, a, b, k, v)) : MetX l yX2_said (ws_ yX2_said cX2_said 4 none) ({ frames := 9, cells := 0, slots := 0, locals := 196 } : Room) (va_Pc [.ref (L 46)] (pS D (cfC D L (rdX x (w, a, b, k, v))) A σ)) (pQ D L (rdX x (w, a, b, k, v)) A (vR x (saiP (x.2.1 2) n (w, a, b, k, v)))) A := by
  refine met_XS (by decide) rfl (Nat.le_of_ble_eq_true rfl) ?_
  intro p e s m below meth c ls hx hb hr hml hown hts hlocks hl hI hK hSS hout
  have F : CallFix p m c cX2_said 4 s _ lw_all RX2 := ⟨hx, hb, hml, hown, hts⟩
  have hl : lv_has ls 4 [(0, .ref (L 46))] := hl
  have hS : va_S A s.heap s.heap [] := va_S.rf
  obtain ⟨hrn, hrN, hrt⟩ := id hR
  obtain ⟨ho0, ha0, hk0, hv0⟩ : wOk w ∧ a ≤ n ∧ k < 4 ∧ (k = 1 ∨ k = 2 → v < 1000000) := ⟨hs.1, hs.2.1, hs.2.2.1, hs.2.2.2⟩
  refine lv_aload_n hx hb dX2_said_0 rfl (lv_at hl 0 rfl) ?_
  refine lv_iconst (v := 0) hx hb dX2_said_1 (by decide) ?_
  refine lv_iconst (v := 5) hx hb dX2_said_2 (by decide) ?_
  rcases hq1 : behP (x.2.1 2) n 6 (w, a, b, k, v) with bq | ⟨z1, w1, a1, b1, k1, v1⟩
  · exact x_thrP (k_XP (n := 2) (As := [.int 0, .int 5]) (rest := []) F (k_X2_behind x n hR hσ w a b k v hs 5 6 (hi_l rfl (by decide))) ⟨rfl, rfl⟩ ⟨Nat.le_of_ble_eq_true rfl, Nat.le_of_ble_eq_true rfl⟩ q1033 q1035 qs37 q96 q1036 (by decide +kernel) hI hK hSS hS (hw.recv hI hK (cf_reader) rfl) rfl hl.1 rfl (Nat.le_of_ble_eq_true rfl) dX2_said_3 ⟨Nat.le_of_ble_eq_true rfl, Nat.le_of_ble_eq_true rfl⟩) (by rw [hq1]; rfl) hS hlocks hout (jk_rd _ _ _) (by simp only [saiP, hq1]; rfl)
  · skip
    refine x_retP (k_XP (n := 2) (As := [.int 0, .int 5]) (rest := []) F (k_X2_behind x n hR hσ w a b k v hs 5 6 (hi_l rfl (by decide))) ⟨rfl, rfl⟩ ⟨Nat.le_of_ble_eq_true rfl, Nat.le_of_ble_eq_true rfl⟩ q1033 q1035 qs37 q96 q1036 (by decide +kernel) hI hK hSS hS (hw.recv hI hK (cf_reader) rfl) rfl hl.1 rfl (Nat.le_of_ble_eq_true rfl) dX2_said_3 ⟨Nat.le_of_ble_eq_true rfl, Nat.le_of_ble_eq_true rfl⟩) (by rw [hq1]; rfl) hS (fun H1 locs1 hI hS => ?_)
    obtain ⟨hs1, hw1, hz1, hg1⟩ := beh_ok hrN hs hq1
    have hz1 : z1 < _ := hz1
    have hw1 : w = w1 := hw1.symm
    subst hw1
    have hv1 : k1 = 1 ∨ k1 = 2 → v1 < 1000000 := hs1.2.2.2
    have ha1 : a1 ≤ n := hs1.2.1
    have hk1 : k1 < 4 := hs1.2.2.1
    refine lv_istore_n (lv' := [(1, .int (nI z1)), (0, .ref (L 46))]) hx hb dX2_said_6 rfl hl (by decide) rfl (fun ls hl => ?_)
    refine lv_aload_n hx hb dX2_said_7 rfl (lv_at hl 1 rfl) ?_
    refine lv_iconst (v := 0) hx hb dX2_said_8 (by decide) ?_
    refine lv_iconst (v := 5) hx hb dX2_said_9 (by decide) ?_
    rcases hq2 : numP (x.2.1 2) n 6 (w, a1, b1, k1, v1) with bq | ⟨z2, w2, a2, b2, k2, v2⟩
    · exact x_thrP (k_XP (n := 2) (As := [.int 0, .int 5]) (rest := []) F (k_X2_number x n hR hσ w a1 b1 k1 v1 hs1 5 6 (hi_l rfl (by decide))) ⟨rfl, rfl⟩ ⟨Nat.le_of_ble_eq_true rfl, Nat.le_of_ble_eq_true rfl⟩ q1037 q1039 qs38 q96 q1040 (by decide +kernel) hI hK hSS hS (hw.recv hI hK (cf_reader) rfl) rfl hl.1 rfl (Nat.le_of_ble_eq_true rfl) dX2_said_10 ⟨Nat.le_of_ble_eq_true rfl, Nat.le_of_ble_eq_true rfl⟩) (by rw [hq2]; rfl) hS hlocks hout (jk_rd _ _ _) (by simp only [saiP, hq1, hq2]; rfl)
    · skip
      refine x_retP (k_XP (n := 2) (As := [.int 0, .int 5]) (rest := []) F (k_X2_number x n hR hσ w a1 b1 k1 v1 hs1 5 6 (hi_l rfl (by decide))) ⟨rfl, rfl⟩ ⟨Nat.le_of_ble_eq_true rfl, Nat.le_of_ble_eq_true rfl⟩ q1037 q1039 qs38 q96 q1040 (by decide +kernel) hI hK hSS hS (hw.recv hI hK (cf_reader) rfl) rfl hl.1 rfl (Nat.le_of_ble_eq_true rfl) dX2_said_10 ⟨Nat.le_of_ble_eq_true rfl, Nat.le_of_ble_eq_true rfl⟩) (by rw [hq2]; rfl) hS (fun H1 locs1 hI hS => ?_)
      obtain ⟨hs2, hw2, hz2, hg2⟩ := num_ok hrN hs1 hq2
      have hz2 : z2 < _ := hz2
      have hw2 : w = w2 := hw2.symm
      subst hw2
      have hv2 : k2 = 1 ∨ k2 = 2 → v2 < 1000000 := hs2.2.2.2
      have ha2 : a2 ≤ n := hs2.2.1
      have hk2 : k2 < 4 := hs2.2.2.1
      refine lv_istore_n (lv' := [(2, .int (nI z2)), (1, .int (nI z1)), (0, .ref (L 46))]) hx hb dX2_said_13 rfl hl (by decide) rfl (fun ls hl => ?_)
      refine lv_aload_n hx hb dX2_said_14 rfl (lv_at hl 2 rfl) ?_
      refine lv_iconst (v := 0) hx hb dX2_said_15 (by decide) ?_
      refine lv_bipush (v := 15) hx hb dX2_said_16 (by decide) ?_
      rcases hq3 : numP (x.2.1 2) n 16 (w, a2, b2, k2, v2) with bq | ⟨z3, w3, a3, b3, k3, v3⟩
      · exact x_thrP (k_XP (n := 2) (As := [.int 0, .int 15]) (rest := []) F (k_X2_number x n hR hσ w a2 b2 k2 v2 hs2 15 16 (hi_l rfl (by decide))) ⟨rfl, rfl⟩ ⟨Nat.le_of_ble_eq_true rfl, Nat.le_of_ble_eq_true rfl⟩ q1037 q1039 qs38 q96 q1040 (by decide +kernel) hI hK hSS hS (hw.recv hI hK (cf_reader) rfl) rfl hl.1 rfl (Nat.le_of_ble_eq_true rfl) dX2_said_18 ⟨Nat.le_of_ble_eq_true rfl, Nat.le_of_ble_eq_true rfl⟩) (by rw [hq3]; rfl) hS hlocks hout (jk_rd _ _ _) (by simp only [saiP, hq1, hq2, hq3]; rfl)
      · skip
        refine x_retP (k_XP (n := 2) (As := [.int 0, .int 15]) (rest := []) F (k_X2_number x n hR hσ w a2 b2 k2 v2 hs2 15 16 (hi_l rfl (by decide))) ⟨rfl, rfl⟩ ⟨Nat.le_of_ble_eq_true rfl, Nat.le_of_ble_eq_true rfl⟩ q1037 q1039 qs38 q96 q1040 (by decide +kernel) hI hK hSS hS (hw.recv hI hK (cf_reader) rfl) rfl hl.1 rfl (Nat.le_of_ble_eq_true rfl) dX2_said_18 ⟨Nat.le_of_ble_eq_true rfl, Nat.le_of_ble_eq_true rfl⟩) (by rw [hq3]; rfl) hS (fun H1 locs1 hI hS => ?_)
        obtain ⟨hs3, hw3, hz3, hg3⟩ := num_ok hrN hs2 hq3
        have hz3 : z3 < _ := hz3
        have hw3 : w = w3 := hw3.symm
        subst hw3
        have hv3 : k3 = 1 ∨ k3 = 2 → v3 < 1000000 := hs3.2.2.2
        have ha3 : a3 ≤ n := hs3.2.1
        have hk3 : k3 < 4 := hs3.2.2.1
        refine lv_istore_n (lv' := [(3, .int (nI z3)), (2, .int (nI z2)), (1, .int (nI z1)), (0, .ref (L 46))]) hx hb dX2_said_21 rfl hl (by decide) rfl (fun ls hl => ?_)
        refine lv_aload_n hx hb dX2_said_22 rfl (lv_at hl 3 rfl) ?_
        refine r_get (C := RX2) (T := TX2) (N := 8) hx hb hts in_X2 hown hK hI (cf_reader) rfl 2 (by decide) (hts _ q261) (fun _ h => h) rfl dX2_said_23 ?_
        refine r_getN (C := RX4) (T := TX4) (N := 7) hx hb hts in_X4 hown hK hI (cf_W (w := 3) (by decide)) rfl 0 (by decide) (nf_1 hK) (fun _ h => h) rfl dX2_said_26 ?_
        refine lv_iload_n hx hb dX2_said_29 rfl (lv_at hl 2 rfl) ?_
        refine lv_iload_n hx hb dX2_said_30 rfl (lv_at hl 1 rfl) ?_
        refine lv_iload_n hx hb dX2_said_31 rfl (lv_at hl 0 rfl) ?_
        refine lv_aload_n hx hb dX2_said_32 rfl (lv_at hl 3 rfl) ?_
        refine lv_iconst (v := 0) hx hb dX2_said_33 (by decide) ?_
        refine lv_bipush (v := 9) hx hb dX2_said_34 (by decide) ?_
        rcases hq4 : numP (x.2.1 2) n 10 (w, a3, b3, k3, v3) with bq | ⟨z4, w4, a4, b4, k4, v4⟩
        · exact x_thrP (k_XP (n := 2) (As := [.int 0, .int 9]) (rest := [.int (nI z3), .int (nI z2), .int (nI z1), .ref (L (11 * 3 + 1))]) F (k_X2_number x n hR hσ w a3 b3 k3 v3 hs3 9 10 (hi_l rfl (by decide))) ⟨rfl, rfl⟩ ⟨Nat.le_of_ble_eq_true rfl, Nat.le_of_ble_eq_true rfl⟩ q1037 q1039 qs38 q96 q1040 (by decide +kernel) hI hK hSS hS (hw.recv hI hK (cf_reader) rfl) rfl hl.1 rfl (Nat.le_of_ble_eq_true rfl) dX2_said_36 ⟨Nat.le_of_ble_eq_true rfl, Nat.le_of_ble_eq_true rfl⟩) (by rw [hq4]; rfl) hS hlocks hout (jk_rd _ _ _) (by simp only [saiP, hq1, hq2, hq3, hq4]; rfl)
        · skip
          refine x_retP (k_XP (n := 2) (As := [.int 0, .int 9]) (rest := [.int (nI z3), .int (nI z2), .int (nI z1), .ref (L (11 * 3 + 1))]) F (k_X2_number x n hR hσ w a3 b3 k3 v3 hs3 9 10 (hi_l rfl (by decide))) ⟨rfl, rfl⟩ ⟨Nat.le_of_ble_eq_true rfl, Nat.le_of_ble_eq_true rfl⟩ q1037 q1039 qs38 q96 q1040 (by decide +kernel) hI hK hSS hS (hw.recv hI hK (cf_reader) rfl) rfl hl.1 rfl (Nat.le_of_ble_eq_true rfl) dX2_said_36 ⟨Nat.le_of_ble_eq_true rfl, Nat.le_of_ble_eq_true rfl⟩) (by rw [hq4]; rfl) hS (fun H1 locs1 hI hS => ?_)
          obtain ⟨hs4, hw4, hz4, hg4⟩ := num_ok hrN hs3 hq4
          have hz4 : z4 < _ := hz4
          have hw4 : w = w4 := hw4.symm
          subst hw4
          have hv4 : k4 = 1 ∨ k4 = 2 → v4 < 1000000 := hs4.2.2.2
          have ha4 : a4 ≤ n := hs4.2.1
          have hk4 : k4 < 4 := hs4.2.2.1
          refine c_r (k_SN (As := [.int (nI z2), .int (nI z3), .int (nI z4)]) (rest := [.int (nI z1), .ref (L (11 * 3 + 1))]) F (k_X0_saying (nI z2) (nI z3) (nI z4)) ⟨va_cnB 3 hts (lw_meth q222) rfl rfl rfl (nm_8 hK) (hts _ q91) (by decide +kernel) ⟨Nat.le_of_ble_eq_true rfl, Nat.le_of_ble_eq_true rfl⟩, hts _ q221, trivial⟩ rfl hl.1 rfl (Nat.le_of_ble_eq_true rfl) dX2_said_39 ⟨Nat.le_of_ble_eq_true rfl, Nat.le_of_ble_eq_true rfl⟩) ?_
          refine n_iast (cf' := cfC D L (xs (rdX x (w, a4, b4, k4, v4)) 3 (u2 ((rdX x (w, a4, b4, k4, v4)).1 3) 0 z1 (syI (nI z2) (nI z3) (nI z4))))) (k := z1) hx hb hK hI hS (cf_list (w := 3) (by decide)) (rfl) (by omega) (by decide) (cs_list (w := 3) (by decide)) dX2_said_42 (fun H1 locs1 hI hS => ?_)
          rw [rd_w, rd_xs] at hI
          exact W_mono MQ_X (W.vret hx hb hr (fun t ht _ => pq_ret (by simp only [saiP, hq1, hq2, hq3, hq4]; rfl) rfl (by rw [ht]; exact hI) (hS.F ht)) hS.2.2 dX2_said_43)
theorem k_X2_hand {l : Launch} {D : va_G} {L : Nat → Nat} {A : Nat → Prop} {σ : Nat × Nat × Value} (x : cst) (n : Nat) (hR : rOk x n) (hσ : σ.2.2 = .null ∨ ∃ a, σ.2.2 = .ref a) (w : wd) (a b k v : Nat) (hs : psOk n (w, a, b, k, v)) : MetX l yX2_hand (ws_ yX2_hand cX2_hand 2 none) ({ frames := 9, cells := 0, slots := 0, locals := 196 } : Room) (va_Pc [.ref (L 46)] (pS D (cfC D L (rdX x (w, a, b, k, v))) A σ)) (pQ D L (rdX x (w, a, b, k, v)) A (vR x (hanP (x.2.1 2) n (w, a, b, k, v)))) A := by
  refine met_XS (by decide) rfl (Nat.le_of_ble_eq_true rfl) ?_
  intro p e s m below meth c ls hx hb hr hml hown hts hlocks hl hI hK hSS hout
  have F : CallFix p m c cX2_hand 2 s _ lw_all RX2 := ⟨hx, hb, hml, hown, hts⟩
  have hl : lv_has ls 2 [(0, .ref (L 46))] := hl
  have hS : va_S A s.heap s.heap [] := va_S.rf
  obtain ⟨hrn, hrN, hrt⟩ := id hR
  obtain ⟨ho0, ha0, hk0, hv0⟩ : wOk w ∧ a ≤ n ∧ k < 4 ∧ (k = 1 ∨ k = 2 → v < 1000000) := ⟨hs.1, hs.2.1, hs.2.2.1, hs.2.2.2⟩
  have hw8 : wN w ≤ 8 := (wOk.n hs.1).2
  refine lv_aload_n hx hb dX2_hand_0 rfl (lv_at hl 0 rfl) ?_
  refine lv_iconst (v := 0) hx hb dX2_hand_1 (by decide) ?_
  refine lv_aload_n hx hb dX2_hand_2 rfl (lv_at hl 0 rfl) ?_
  refine r_get (C := RX2) (T := TX2) (N := 8) hx hb hts in_X2 hown hK hI (cf_reader) rfl 2 (by decide) (hts _ q261) (fun _ h => h) rfl dX2_hand_3 ?_
  refine r_getN (v := .int (nI (wN w))) (C := RX4) (T := TX4) (N := 7) hx hb hts in_X4 hown hK hI (cf_W (w := 3) (by decide)) rfl 1 (by decide) (nf_3 hK) (fun _ h => h) (rdv ((congrFun (congrFun (rd_w x w a b k v) 1) 0).trans (wOk.n hs.1).1)) dX2_hand_6 ?_
  refine lv_iconst (v := 1) hx hb dX2_hand_9 (by decide) ?_
  refine lv_isub hx hb dX2_hand_10 ?_
  rcases hq1 : behP (x.2.1 2) n (wN w) (w, a, b, k, v) with bq | ⟨z1, w1, a1, b1, k1, v1⟩
  · exact x_thrP (k_XP (n := 2) (As := [.int 0, .int ((nI (wN w)) - (1 : Int32))]) (rest := []) F (k_X2_behind x n hR hσ w a b k v hs (nI (wN w) - 1) (wN w) (hi_p (by omega))) ⟨rfl, rfl⟩ ⟨Nat.le_of_ble_eq_true rfl, Nat.le_of_ble_eq_true rfl⟩ q1033 q1035 qs37 q96 q1036 (by decide +kernel) hI hK hSS hS (hw.recv hI hK (cf_reader) rfl) rfl hl.1 rfl (Nat.le_of_ble_eq_true rfl) dX2_hand_11 ⟨Nat.le_of_ble_eq_true rfl, Nat.le_of_ble_eq_true rfl⟩) (by rw [hq1]; rfl) hS hlocks hout (jk_rd _ _ _) (by simp only [hanP, hq1]; rfl)
  · skip
    refine x_retP (k_XP (n := 2) (As := [.int 0, .int ((nI (wN w)) - (1 : Int32))]) (rest := []) F (k_X2_behind x n hR hσ w a b k v hs (nI (wN w) - 1) (wN w) (hi_p (by omega))) ⟨rfl, rfl⟩ ⟨Nat.le_of_ble_eq_true rfl, Nat.le_of_ble_eq_true rfl⟩ q1033 q1035 qs37 q96 q1036 (by decide +kernel) hI hK hSS hS (hw.recv hI hK (cf_reader) rfl) rfl hl.1 rfl (Nat.le_of_ble_eq_true rfl) dX2_hand_11 ⟨Nat.le_of_ble_eq_true rfl, Nat.le_of_ble_eq_true rfl⟩) (by rw [hq1]; rfl) hS (fun H1 locs1 hI hS => ?_)
    obtain ⟨hs1, hw1, hz1, hg1⟩ := beh_ok hrN hs hq1
    have hz1 : z1 < _ := hz1
    have hw1 : w = w1 := hw1.symm
    subst hw1
    have hv1 : k1 = 1 ∨ k1 = 2 → v1 < 1000000 := hs1.2.2.2
    have ha1 : a1 ≤ n := hs1.2.1
    have hk1 : k1 < 4 := hs1.2.2.1
    refine lv_istore_n (lv' := [(1, .int (nI z1)), (0, .ref (L 46))]) hx hb dX2_hand_14 rfl hl (by decide) rfl (fun ls hl => ?_)
    refine lv_aload_n hx hb dX2_hand_15 rfl (lv_at hl 1 rfl) ?_
    refine r_get (C := RX2) (T := TX2) (N := 8) hx hb hts in_X2 hown hK hI (cf_reader) rfl 2 (by decide) (hts _ q261) (fun _ h => h) rfl dX2_hand_16 ?_
    refine r_getN (C := RX4) (T := TX4) (N := 7) hx hb hts in_X4 hown hK hI (cf_W (w := 3) (by decide)) rfl 2 (by decide) (nf_6 hK) (fun _ h => h) rfl dX2_hand_19 ?_
    refine lv_iconst (v := 5) hx hb dX2_hand_22 (by decide) ?_
    refine n_aaldI (f := fun r => L (11 * 3 + 3 + r)) (k := 5) hx hb hK hI (cf_glove (w := 3) (by decide)) (rfl) (by decide) (by decide) dX2_hand_23 ?_
    refine lv_iload_n hx hb dX2_hand_24 rfl (lv_at hl 0 rfl) ?_
    refine lv_aload_n hx hb dX2_hand_25 rfl (lv_at hl 1 rfl) ?_
    refine lv_iconst (v := 0) hx hb dX2_hand_26 (by decide) ?_
    refine lv_ldc (v := 65535) hx hb hown (hts _ q1046) dX2_hand_27 ?_
    rcases hq2 : numP (x.2.1 2) n 65536 (w, a1, b1, k1, v1) with bq | ⟨z2, w2, a2, b2, k2, v2⟩
    · exact x_thrP (k_XP (n := 2) (As := [.int 0, .int 65535]) (rest := [.int (nI z1), .ref (L (11 * 3 + 3 + 5))]) F (k_X2_number x n hR hσ w a1 b1 k1 v1 hs1 65535 65536 (hi_l rfl (by decide))) ⟨rfl, rfl⟩ ⟨Nat.le_of_ble_eq_true rfl, Nat.le_of_ble_eq_true rfl⟩ q1037 q1039 qs38 q96 q1040 (by decide +kernel) hI hK hSS hS (hw.recv hI hK (cf_reader) rfl) rfl hl.1 rfl (Nat.le_of_ble_eq_true rfl) dX2_hand_29 ⟨Nat.le_of_ble_eq_true rfl, Nat.le_of_ble_eq_true rfl⟩) (by rw [hq2]; rfl) hS hlocks hout (jk_rd _ _ _) (by simp only [hanP, hq1, hq2]; rfl)
    · skip
      refine x_retP (k_XP (n := 2) (As := [.int 0, .int 65535]) (rest := [.int (nI z1), .ref (L (11 * 3 + 3 + 5))]) F (k_X2_number x n hR hσ w a1 b1 k1 v1 hs1 65535 65536 (hi_l rfl (by decide))) ⟨rfl, rfl⟩ ⟨Nat.le_of_ble_eq_true rfl, Nat.le_of_ble_eq_true rfl⟩ q1037 q1039 qs38 q96 q1040 (by decide +kernel) hI hK hSS hS (hw.recv hI hK (cf_reader) rfl) rfl hl.1 rfl (Nat.le_of_ble_eq_true rfl) dX2_hand_29 ⟨Nat.le_of_ble_eq_true rfl, Nat.le_of_ble_eq_true rfl⟩) (by rw [hq2]; rfl) hS (fun H1 locs1 hI hS => ?_)
      obtain ⟨hs2, hw2, hz2, hg2⟩ := num_ok hrN hs1 hq2
      have hz2 : z2 < _ := hz2
      have hw2 : w = w2 := hw2.symm
      subst hw2
      have hv2 : k2 = 1 ∨ k2 = 2 → v2 < 1000000 := hs2.2.2.2
      have ha2 : a2 ≤ n := hs2.2.1
      have hk2 : k2 < 4 := hs2.2.2.1
      refine n_iast (cf' := cfC D L (xs (rdX x (w, a2, b2, k2, v2)) 3 (u2 ((rdX x (w, a2, b2, k2, v2)).1 3) (2 + 5) z1 (nI z2)))) (k := z1) hx hb hK hI hS (cf_row (w := 3) (r := 5) (by decide) (by decide)) (rfl) (by omega) (by decide) (cs_row (w := 3) (r := 5) (by decide) (by decide)) dX2_hand_32 (fun H1 locs1 hI hS => ?_)
      rw [rd_w, rd_xs] at hI
      exact W_mono MQ_X (W.vret hx hb hr (fun t ht _ => pq_ret (by simp only [hanP, hq1, hq2]; rfl) rfl (by rw [ht]; exact hI) (hS.F ht)) hS.2.2 dX2_hand_33)
theorem k_X2_item {l : Launch} {D : va_G} {L : Nat → Nat} {A : Nat → Prop} {σ : Nat × Nat × Value} (x : cst) (n : Nat) (hR : rOk x n) (hσ : σ.2.2 = .null ∨ ∃ a, σ.2.2 = .ref a) (w : wd) (a b k v : Nat) (hs : psOk n (w, a, b, k, v)) : MetX l yX2_item (ws_ yX2_item cX2_item 1 none) ({ frames := 11, cells := 0, slots := 0, locals := 240 } : Room) (va_Pc [.ref (L 46)] (pS D (cfC D L (rdX x (w, a, b, k, v))) A σ)) (pQ D L (rdX x (w, a, b, k, v)) A (vR x (iteP (x.2.1 2) n (w, a, b, k, v)))) A := by
  refine met_XS (by decide) rfl (Nat.le_of_ble_eq_true rfl) ?_
  intro p e s m below meth c ls hx hb hr hml hown hts hlocks hl hI hK hSS hout
  have F : CallFix p m c cX2_item 1 s _ lw_all RX2 := ⟨hx, hb, hml, hown, hts⟩
  have hl : lv_has ls 1 [(0, .ref (L 46))] := hl
  have hS : va_S A s.heap s.heap [] := va_S.rf
  obtain ⟨hrn, hrN, hrt⟩ := id hR
  obtain ⟨ho0, ha0, hk0, hv0⟩ : wOk w ∧ a ≤ n ∧ k < 4 ∧ (k = 1 ∨ k = 2 → v < 1000000) := ⟨hs.1, hs.2.1, hs.2.2.1, hs.2.2.2⟩
  refine lv_aload_n hx hb dX2_item_0 rfl (lv_at hl 0 rfl) ?_
  refine lv_aload_n hx hb dX2_item_1 rfl (lv_at hl 0 rfl) ?_
  refine r_get (v := .int (nI k)) (C := RX2) (T := TX2) (N := 8) hx hb hts in_X2 hown hK hI (cf_reader) rfl 6 (by decide) (hts _ q268) (fun _ h => h) (rdv (rd_3 x w a b k v)) dX2_item_2 ?_
  refine lv_iconst (v := 2) hx hb dX2_item_5 (by decide) ?_
  refine lv_icmp_ne (tgt := 22) hx hb dX2_item_6 (by decide) (fun c_6 => ?_) (fun c_6 => ?_)
  · skip
    have c_6 : ¬ k = 2 := fun z => c_6 ((neq (a := k) (b := 2) (rfl) (rfl) (by omega) (by omega)).mpr z)
    refine lv_iconst (v := 0) hx hb dX2_item_22 (by decide) ?_
    exact x_thrP (k_XP (n := 1) (As := [.int 0]) (rest := []) F (k_X2_need_0 x n hR hσ w a b k v) ⟨rfl, rfl⟩ ⟨Nat.le_of_ble_eq_true rfl, Nat.le_of_ble_eq_true rfl⟩ q1013 q1015 qs33 q96 q1016 (by decide +kernel) hI hK hSS hS (hw.recv hI hK (cf_reader) rfl) rfl hl.1 rfl (Nat.le_of_ble_eq_true rfl) dX2_item_23 ⟨Nat.le_of_ble_eq_true rfl, Nat.le_of_ble_eq_true rfl⟩) rfl hS hlocks hout (jk_rd _ _ _) (by rw [it_n (by omega)]; rfl)
  · skip
    have c_6 : k = 2 := (neq (a := k) (b := 2) (rfl) (rfl) (by omega) (by omega)).mp c_6
    refine lv_aload_n hx hb dX2_item_9 rfl (lv_at hl 0 rfl) ?_
    refine r_get (v := .int (nI v)) (C := RX2) (T := TX2) (N := 8) hx hb hts in_X2 hown hK hI (cf_reader) rfl 7 (by decide) (hts _ q269) (fun _ h => h) (rdv (rd_4 x w a b k v)) dX2_item_10 ?_
    refine lv_bipush (v := 8) hx hb dX2_item_13 (by decide) ?_
    refine lv_icmp_gt (tgt := 22) hx hb dX2_item_15 (by decide) (fun c_15 => ?_) (fun c_15 => ?_)
    · skip
      have c_15 : 8 < v := (nlt (a := 8) (b := v) (rfl) (rfl) (by omega) (by omega)).mp c_15
      refine lv_iconst (v := 0) hx hb dX2_item_22 (by decide) ?_
      exact x_thrP (k_XP (n := 1) (As := [.int 0]) (rest := []) F (k_X2_need_0 x n hR hσ w a b k v) ⟨rfl, rfl⟩ ⟨Nat.le_of_ble_eq_true rfl, Nat.le_of_ble_eq_true rfl⟩ q1013 q1015 qs33 q96 q1016 (by decide +kernel) hI hK hSS hS (hw.recv hI hK (cf_reader) rfl) rfl hl.1 rfl (Nat.le_of_ble_eq_true rfl) dX2_item_23 ⟨Nat.le_of_ble_eq_true rfl, Nat.le_of_ble_eq_true rfl⟩) rfl hS hlocks hout (jk_rd _ _ _) (by rw [it_n (by omega)]; rfl)
    · skip
      have c_15 : ¬ 8 < v := fun z => c_15 ((nlt (a := 8) (b := v) (rfl) (rfl) (by omega) (by omega)).mpr z)
      refine lv_iconst (v := 1) hx hb dX2_item_18 (by decide) ?_
      refine lv_goto (tgt := 23) hx hb dX2_item_19 (by decide) ?_
      refine c_m (k_V (As := [.int 1]) (rest := []) F (k_X2_need_1 x n hR w a b k v) (cwV 1 hts (lw_V q1013 q1015 qs33 q96 q1016) rfl rfl rfl (by decide +kernel) ⟨Nat.le_of_ble_eq_true rfl, Nat.le_of_ble_eq_true rfl⟩) hI hK (hw.recv hI hK (cf_reader) rfl) rfl hl.1 rfl (Nat.le_of_ble_eq_true rfl) dX2_item_23 ⟨Nat.le_of_ble_eq_true rfl, Nat.le_of_ble_eq_true rfl⟩) hS (fun H1 locs1 hI hS => ?_)
      refine lv_aload_n hx hb dX2_item_26 rfl (lv_at hl 0 rfl) ?_
      refine r_get (v := .int (nI v)) (C := RX2) (T := TX2) (N := 8) hx hb hts in_X2 hown hK hI (cf_reader) rfl 7 (by decide) (hts _ q269) (fun _ h => h) (rdv (rd_4 x w a b k v)) dX2_item_27 ?_
      by_cases c_30_7 : v = 7
      · skip
        refine lv_lookup (off := 26) (tgt := 56) hx hb dX2_item_30 (by decide) (by rw [c_30_7]; decide) (by decide) ?_
        refine lv_aload_n hx hb dX2_item_56 rfl (lv_at hl 0 rfl) ?_
        rcases hq1 : saiP (x.2.1 2) n (w, a, b, k, v) with bq | ⟨w1, a1, b1, k1, v1⟩
        · exact x_thrP (k_XP (n := 0) (As := []) (rest := []) F (k_X2_said x n hR hσ w a b k v hs) ⟨rfl, rfl⟩ ⟨Nat.le_of_ble_eq_true rfl, Nat.le_of_ble_eq_true rfl⟩ q1029 q1031 qs36 q96 q1032 (by decide +kernel) hI hK hSS hS (hw.recv hI hK (cf_reader) rfl) rfl hl.1 rfl (Nat.le_of_ble_eq_true rfl) dX2_item_57 ⟨Nat.le_of_ble_eq_true rfl, Nat.le_of_ble_eq_true rfl⟩) (by rw [hq1]; rfl) hS hlocks hout (jk_rd _ _ _) (by rw [it_7 c_6 c_30_7, hq1]; rfl)
        · skip
          refine x_retP (k_XP (n := 0) (As := []) (rest := []) F (k_X2_said x n hR hσ w a b k v hs) ⟨rfl, rfl⟩ ⟨Nat.le_of_ble_eq_true rfl, Nat.le_of_ble_eq_true rfl⟩ q1029 q1031 qs36 q96 q1032 (by decide +kernel) hI hK hSS hS (hw.recv hI hK (cf_reader) rfl) rfl hl.1 rfl (Nat.le_of_ble_eq_true rfl) dX2_item_57 ⟨Nat.le_of_ble_eq_true rfl, Nat.le_of_ble_eq_true rfl⟩) (by rw [hq1]; rfl) hS (fun H1 locs1 hI hS => ?_)
          obtain ⟨hs1, hg1⟩ := sai_ok hrN hs hq1
          have hv1 : k1 = 1 ∨ k1 = 2 → v1 < 1000000 := hs1.2.2.2
          have ha1 : a1 ≤ n := hs1.2.1
          have hk1 : k1 < 4 := hs1.2.2.1
          refine lv_goto (tgt := 78) hx hb dX2_item_60 (by decide) ?_
          exact W_mono MQ_X (W.vret hx hb hr (fun t ht _ => pq_ret (by first | (rw [it_7 c_6 c_30_7, hq1]; rfl) | (rw [it_8 c_6 c_30_8, hq1]; rfl) | (rw [it_g c_6 (by omega), hq1]; rfl)) rfl (by rw [ht]; exact hI) (hS.F ht)) hS.2.2 dX2_item_78)
      by_cases c_30_8 : v = 8
      · skip
        refine lv_lookup (off := 33) (tgt := 63) hx hb dX2_item_30 (by decide) (by rw [c_30_8]; decide) (by decide) ?_
        refine lv_aload_n hx hb dX2_item_63 rfl (lv_at hl 0 rfl) ?_
        rcases hq2 : hanP (x.2.1 2) n (w, a, b, k, v) with bq | ⟨w2, a2, b2, k2, v2⟩
        · exact x_thrP (k_XP (n := 0) (As := []) (rest := []) F (k_X2_hand x n hR hσ w a b k v hs) ⟨rfl, rfl⟩ ⟨Nat.le_of_ble_eq_true rfl, Nat.le_of_ble_eq_true rfl⟩ q1042 q1044 qs39 q96 q1045 (by decide +kernel) hI hK hSS hS (hw.recv hI hK (cf_reader) rfl) rfl hl.1 rfl (Nat.le_of_ble_eq_true rfl) dX2_item_64 ⟨Nat.le_of_ble_eq_true rfl, Nat.le_of_ble_eq_true rfl⟩) (by rw [hq2]; rfl) hS hlocks hout (jk_rd _ _ _) (by rw [it_8 c_6 c_30_8, hq2]; rfl)
        · skip
          refine x_retP (k_XP (n := 0) (As := []) (rest := []) F (k_X2_hand x n hR hσ w a b k v hs) ⟨rfl, rfl⟩ ⟨Nat.le_of_ble_eq_true rfl, Nat.le_of_ble_eq_true rfl⟩ q1042 q1044 qs39 q96 q1045 (by decide +kernel) hI hK hSS hS (hw.recv hI hK (cf_reader) rfl) rfl hl.1 rfl (Nat.le_of_ble_eq_true rfl) dX2_item_64 ⟨Nat.le_of_ble_eq_true rfl, Nat.le_of_ble_eq_true rfl⟩) (by rw [hq2]; rfl) hS (fun H1 locs1 hI hS => ?_)
          obtain ⟨hs2, hg2⟩ := han_ok hrN hs hq2
          have hv2 : k2 = 1 ∨ k2 = 2 → v2 < 1000000 := hs2.2.2.2
          have ha2 : a2 ≤ n := hs2.2.1
          have hk2 : k2 < 4 := hs2.2.2.1
          refine lv_goto (tgt := 78) hx hb dX2_item_67 (by decide) ?_
          exact W_mono MQ_X (W.vret hx hb hr (fun t ht _ => pq_ret (by first | (rw [it_7 c_6 c_30_7, hq2]; rfl) | (rw [it_8 c_6 c_30_8, hq2]; rfl) | (rw [it_g c_6 (by omega), hq2]; rfl)) rfl (by rw [ht]; exact hI) (hS.F ht)) hS.2.2 dX2_item_78)
      have h9 : v = 0 ∨ v = 1 ∨ v = 2 ∨ v = 3 ∨ v = 4 ∨ v = 5 ∨ v = 6 := by omega
      refine lv_lookup (off := 40) (tgt := 70) hx hb dX2_item_30 (by decide) (by rcases h9 with h9 | h9 | h9 | h9 | h9 | h9 | h9 <;> rw [h9] <;> decide) (by decide) ?_
      refine lv_aload_n hx hb dX2_item_70 rfl (lv_at hl 0 rfl) ?_
      refine lv_aload_n hx hb dX2_item_71 rfl (lv_at hl 0 rfl) ?_
      refine r_get (v := .int (nI v)) (C := RX2) (T := TX2) (N := 8) hx hb hts in_X2 hown hK hI (cf_reader) rfl 7 (by decide) (hts _ q269) (fun _ h => h) (rdv (rd_4 x w a b k v)) dX2_item_72 ?_
      rcases hq3 : gloP (x.2.1 2) n v (w, a, b, k, v) with bq | ⟨w3, a3, b3, k3, v3⟩
      · exact x_thrP (k_XP (n := 1) (As := [.int (nI v)]) (rest := []) F (k_X2_glove x n hR hσ w a b k v hs v (by omega)) ⟨rfl, rfl⟩ ⟨Nat.le_of_ble_eq_true rfl, Nat.le_of_ble_eq_true rfl⟩ q1047 q1049 qs40 q96 q1050 (by decide +kernel) hI hK hSS hS (hw.recv hI hK (cf_reader) rfl) rfl hl.1 rfl (Nat.le_of_ble_eq_true rfl) dX2_item_75 ⟨Nat.le_of_ble_eq_true rfl, Nat.le_of_ble_eq_true rfl⟩) (by rw [hq3]; rfl) hS hlocks hout (jk_rd _ _ _) (by rw [it_g c_6 (by omega), hq3]; rfl)
      · skip
        refine x_retP (k_XP (n := 1) (As := [.int (nI v)]) (rest := []) F (k_X2_glove x n hR hσ w a b k v hs v (by omega)) ⟨rfl, rfl⟩ ⟨Nat.le_of_ble_eq_true rfl, Nat.le_of_ble_eq_true rfl⟩ q1047 q1049 qs40 q96 q1050 (by decide +kernel) hI hK hSS hS (hw.recv hI hK (cf_reader) rfl) rfl hl.1 rfl (Nat.le_of_ble_eq_true rfl) dX2_item_75 ⟨Nat.le_of_ble_eq_true rfl, Nat.le_of_ble_eq_true rfl⟩) (by rw [hq3]; rfl) hS (fun H1 locs1 hI hS => ?_)
        obtain ⟨hs3, hg3⟩ := glo_ok hrN hs (by omega) hq3
        have hv3 : k3 = 1 ∨ k3 = 2 → v3 < 1000000 := hs3.2.2.2
        have ha3 : a3 ≤ n := hs3.2.1
        have hk3 : k3 < 4 := hs3.2.2.1
        exact W_mono MQ_X (W.vret hx hb hr (fun t ht _ => pq_ret (by first | (rw [it_7 c_6 c_30_7, hq3]; rfl) | (rw [it_8 c_6 c_30_8, hq3]; rfl) | (rw [it_g c_6 (by omega), hq3]; rfl)) rfl (by rw [ht]; exact hI) (hS.F ht)) hS.2.2 dX2_item_78)
theorem k_X2_whole {l : Launch} {D : va_G} {L : Nat → Nat} {A : Nat → Prop} {σ : Nat × Nat × Value} (x : cst) (n : Nat) (hR : rOk x n) (hσ : σ.2.2 = .null ∨ ∃ a, σ.2.2 = .ref a) (w : wd) (a b k v : Nat) (hs : wOk w) : MetX l yX2_whole (ws_ yX2_whole cX2_whole 2 (some .int)) ({ frames := 12, cells := 0, slots := 0, locals := 260 } : Room) (va_Pc [.ref (L 46)] (pS D (cfC D L (rdX x (w, a, b, k, v))) A σ)) (pQ D L (rdX x (w, a, b, k, v)) A (iR x (txtP (x.2.1 2) n (w, a, b, k, v)))) A := by
  refine met_XS (by decide) rfl (Nat.le_of_ble_eq_true rfl) ?_
  intro p e s m below meth c ls hx hb hr hml hown hts hlocks hl hI hK hSS hout
  have F : CallFix p m c cX2_whole 2 s _ lw_all RX2 := ⟨hx, hb, hml, hown, hts⟩
  have hl : lv_has ls 2 [(0, .ref (L 46))] := hl
  have hS : va_S A s.heap s.heap [] := va_S.rf
  obtain ⟨hrn, hrN, hrt⟩ := id hR
  have hsz : psW n (w, 0, b, k, v) := ⟨hs, Nat.zero_le _⟩
  refine lv_aload_n hx hb dX2_whole_0 rfl (lv_at hl 0 rfl) ?_
  refine lv_iconst (v := 0) hx hb dX2_whole_1 (by decide) ?_
  refine r_put (C := RX2) (T := TX2) (N := 8) (cf' := cfC D L (xr (rdX x (w, a, b, k, v)) 1 1 (nI 0))) hx hb hts in_X2 tyX2 tyX2_ok nmX2 hown hK hI hS (cf_reader) rfl 4 (by decide) (hts _ q265) (fun _ h => h) rfl (ty := .int) (by decide +kernel) rfl rfl (Nat.le_of_ble_eq_true rfl) (cs_reader rfl) dX2_whole_2 (fun H1 locs1 hI hS => ?_)
  rw [rd_s1] at hI
  refine lv_aload_n hx hb dX2_whole_5 rfl (lv_at hl 0 rfl) ?_
  rcases hq1 : nextP (x.2.1 2) n (w, 0, b, k, v) with bq | ⟨w1, a1, b1, k1, v1⟩
  · exact x_thrP (k_XP (n := 0) (As := []) (rest := []) F (k_X2_next x n hR hσ w 0 b k v hsz) ⟨rfl, rfl⟩ ⟨Nat.le_of_ble_eq_true rfl, Nat.le_of_ble_eq_true rfl⟩ q952 q954 qs29 q96 q955 (by decide +kernel) hI hK hSS hS (hw.recv hI hK (cf_reader) rfl) rfl hl.1 rfl (Nat.le_of_ble_eq_true rfl) dX2_whole_6 ⟨Nat.le_of_ble_eq_true rfl, Nat.le_of_ble_eq_true rfl⟩) (by rw [hq1]; rfl) hS hlocks hout (jk_rd _ _ _) (by simp only [txtP, hq1]; rfl)
  · skip
    refine x_retP (k_XP (n := 0) (As := []) (rest := []) F (k_X2_next x n hR hσ w 0 b k v hsz) ⟨rfl, rfl⟩ ⟨Nat.le_of_ble_eq_true rfl, Nat.le_of_ble_eq_true rfl⟩ q952 q954 qs29 q96 q955 (by decide +kernel) hI hK hSS hS (hw.recv hI hK (cf_reader) rfl) rfl hl.1 rfl (Nat.le_of_ble_eq_true rfl) dX2_whole_6 ⟨Nat.le_of_ble_eq_true rfl, Nat.le_of_ble_eq_true rfl⟩) (by rw [hq1]; rfl) hS (fun H1 locs1 hI hS => ?_)
    obtain ⟨hs1, hw1, hm1, hg1, hn1⟩ := next_ok hrN hsz hq1
    have hw1 : w = w1 := hw1.symm
    subst hw1
    have hv1 : k1 = 1 ∨ k1 = 2 → v1 < 1000000 := hs1.2.2.2
    have ha1 : a1 ≤ n := hs1.2.1
    have hk1 : k1 < 4 := hs1.2.2.1
    refine lv_aload_n hx hb dX2_whole_9 rfl (lv_at hl 0 rfl) ?_
    rcases hq2 : iteP (x.2.1 2) n (w, a1, b1, k1, v1) with bq | ⟨w2, a2, b2, k2, v2⟩
    · exact x_thrP (k_XP (n := 0) (As := []) (rest := []) F (k_X2_item x n hR hσ w a1 b1 k1 v1 hs1) ⟨rfl, rfl⟩ ⟨Nat.le_of_ble_eq_true rfl, Nat.le_of_ble_eq_true rfl⟩ q1025 q1027 qs35 q96 q1028 (by decide +kernel) hI hK hSS hS (hw.recv hI hK (cf_reader) rfl) rfl hl.1 rfl (Nat.le_of_ble_eq_true rfl) dX2_whole_10 ⟨Nat.le_of_ble_eq_true rfl, Nat.le_of_ble_eq_true rfl⟩) (by rw [hq2]; rfl) hS hlocks hout (jk_rd _ _ _) (by simp only [txtP, hq1, hq2]; rfl)
    · skip
      refine x_retP (k_XP (n := 0) (As := []) (rest := []) F (k_X2_item x n hR hσ w a1 b1 k1 v1 hs1) ⟨rfl, rfl⟩ ⟨Nat.le_of_ble_eq_true rfl, Nat.le_of_ble_eq_true rfl⟩ q1025 q1027 qs35 q96 q1028 (by decide +kernel) hI hK hSS hS (hw.recv hI hK (cf_reader) rfl) rfl hl.1 rfl (Nat.le_of_ble_eq_true rfl) dX2_whole_10 ⟨Nat.le_of_ble_eq_true rfl, Nat.le_of_ble_eq_true rfl⟩) (by rw [hq2]; rfl) hS (fun H1 locs1 hI hS => ?_)
      obtain ⟨hs2, hg2⟩ := ite_ok hrN hs1 hq2
      have hv2 : k2 = 1 ∨ k2 = 2 → v2 < 1000000 := hs2.2.2.2
      have ha2 : a2 ≤ n := hs2.2.1
      have hk2 : k2 < 4 := hs2.2.2.1
      have hg2 : a1 ≤ a2 := hg2
      refine lv_iconst (v := 1) hx hb dX2_whole_13 (by decide) ?_
      refine lv_istore_n (lv' := [(1, .int 1), (0, .ref (L 46))]) hx hb dX2_whole_14 rfl hl (by decide) rfl (fun ls hl => ?_)
      have lp15 : ∀ (fuel : Nat) (f : Nat) (c9 : Nat) (w5 : wd) (a5 : Nat) (b5 : Nat) (k5 : Nat) (v5 : Nat), (psOk n (w5, a5, b5, k5, v5)) → (n - a5 < f) → (txtP (x.2.1 2) n (w, a, b, k, v) = whoP (x.2.1 2) n f c9 (w5, a5, b5, k5, v5)) → (c9 ≤ a5 + 1) → n - a5 < fuel → ∀ (v1 : Int32), v1 = nI c9 → ∀ (H : Heap) (locs : List Loc), hw D (cfC D L (rdX x (w5, a5, b5, k5, v5))) A H → va_S A s.heap H locs → ∀ (ls : Array Slot), lv_has ls 2 [(0, .ref (L 46)), (1, .int v1)] → W p l e ({ frames := 12, cells := 0, slots := 0, locals := 260 } : Room) s m ([.ref (L 46)] : List Value).toArray below meth c H locs 0 0 (MQX below (pQ D L (rdX x (w, a, b, k, v)) A (iR x (txtP (x.2.1 2) n (w, a, b, k, v)))) ([.ref (L 46)] : List Value).toArray s A) (F0 m 15 ls []) := by
        intro fuel
        induction fuel with
        | zero => intro f c9 w5 a5 b5 k5 v5 hs5 hf5 hq5 hc5 hf; exact absurd hf (Nat.not_lt_zero _)
        | succ fuel ih15 =>
          intro f c9 w5 a5 b5 k5 v5 hs5 hf5 hq5 hc5 hf15 v1 e1 H locs hI hS ls hl
          subst e1
          obtain ⟨f, rfl⟩ : ∃ g, f = g + 1 := ⟨f - 1, by omega⟩
          have ha5 : a5 ≤ n := hs5.2.1
          have hk5 : k5 < 4 := hs5.2.2.1
          refine lv_aload_n hx hb dX2_whole_15 rfl (lv_at hl 0 rfl) ?_
          refine r_get (v := .int (nI k5)) (C := RX2) (T := TX2) (N := 8) hx hb hts in_X2 hown hK hI (cf_reader) rfl 6 (by decide) (hts _ q268) (fun _ h => h) (rdv (rd_3 x w5 a5 b5 k5 v5)) dX2_whole_16 ?_
          refine lv_iconst (v := 3) hx hb dX2_whole_19 (by decide) ?_
          refine lv_icmp_ne (tgt := 37) hx hb dX2_whole_20 (by decide) (fun c_20 => ?_) (fun c_20 => ?_)
          · skip
            have c_20 : ¬ k5 = 3 := fun z => c_20 ((neq (a := k5) (b := 3) (rfl) (rfl) (by omega) (by omega)).mpr z)
            refine lv_aload_n hx hb dX2_whole_37 rfl (lv_at hl 0 rfl) ?_
            refine lv_aload_n hx hb dX2_whole_38 rfl (lv_at hl 0 rfl) ?_
            refine r_get (v := .int (nI k5)) (C := RX2) (T := TX2) (N := 8) hx hb hts in_X2 hown hK hI (cf_reader) rfl 6 (by decide) (hts _ q268) (fun _ h => h) (rdv (rd_3 x w5 a5 b5 k5 v5)) dX2_whole_39 ?_
            refine lv_if_ne (tgt := 49) hx hb dX2_whole_42 (by decide) (fun c_42 => ?_) (fun c_42 => ?_)
            · skip
              have c_42 : ¬ k5 = 0 := fun z => c_42 ((neq (a := k5) (b := 0) (rfl) (rfl) (by omega) (by omega)).mpr z)
              refine lv_iconst (v := 0) hx hb dX2_whole_49 (by decide) ?_
              exact x_thrP (k_XP (n := 1) (As := [.int 0]) (rest := []) F (k_X2_need_0 x n hR hσ w5 a5 b5 k5 v5) ⟨rfl, rfl⟩ ⟨Nat.le_of_ble_eq_true rfl, Nat.le_of_ble_eq_true rfl⟩ q1013 q1015 qs33 q96 q1016 (by decide +kernel) hI hK hSS hS (hw.recv hI hK (cf_reader) rfl) rfl hl.1 rfl (Nat.le_of_ble_eq_true rfl) dX2_whole_50 ⟨Nat.le_of_ble_eq_true rfl, Nat.le_of_ble_eq_true rfl⟩) rfl hS hlocks hout (jk_rd _ _ _) (by rw [hq5, wh_x c_20 c_42]; rfl)
            · skip
              have c_42 : k5 = 0 := (neq (a := k5) (b := 0) (rfl) (rfl) (by omega) (by omega)).mp c_42
              refine lv_iconst (v := 1) hx hb dX2_whole_45 (by decide) ?_
              refine lv_goto (tgt := 50) hx hb dX2_whole_46 (by decide) ?_
              refine c_m (k_V (As := [.int 1]) (rest := []) F (k_X2_need_1 x n hR w5 a5 b5 k5 v5) (cwV 1 hts (lw_V q1013 q1015 qs33 q96 q1016) rfl rfl rfl (by decide +kernel) ⟨Nat.le_of_ble_eq_true rfl, Nat.le_of_ble_eq_true rfl⟩) hI hK (hw.recv hI hK (cf_reader) rfl) rfl hl.1 rfl (Nat.le_of_ble_eq_true rfl) dX2_whole_50 ⟨Nat.le_of_ble_eq_true rfl, Nat.le_of_ble_eq_true rfl⟩) hS (fun H1 locs1 hI hS => ?_)
              refine lv_iload_n hx hb dX2_whole_53 rfl (lv_at hl 1 rfl) ?_
              exact W_mono MQ_X (W.iret hx hb hr (fun t ht _ => pq_ret (by rw [hq5, wh_0 c_42]; rfl) rfl (by rw [ht]; exact hI) (hS.F ht)) hS.2.2 dX2_whole_54)
          · skip
            have c_20 : k5 = 3 := (neq (a := k5) (b := 3) (rfl) (rfl) (by omega) (by omega)).mp c_20
            refine lv_aload_n hx hb dX2_whole_23 rfl (lv_at hl 0 rfl) ?_
            rcases hq3 : nextP (x.2.1 2) n (w5, a5, b5, k5, v5) with bq | ⟨w3, a3, b3, k3, v3⟩
            · exact x_thrP (k_XP (n := 0) (As := []) (rest := []) F (k_X2_next x n hR hσ w5 a5 b5 k5 v5 (psOk.w hs5)) ⟨rfl, rfl⟩ ⟨Nat.le_of_ble_eq_true rfl, Nat.le_of_ble_eq_true rfl⟩ q952 q954 qs29 q96 q955 (by decide +kernel) hI hK hSS hS (hw.recv hI hK (cf_reader) rfl) rfl hl.1 rfl (Nat.le_of_ble_eq_true rfl) dX2_whole_24 ⟨Nat.le_of_ble_eq_true rfl, Nat.le_of_ble_eq_true rfl⟩) (by rw [hq3]; rfl) hS hlocks hout (jk_rd _ _ _) (by rw [hq5, wh_3 c_20]; simp only [hq3]; rfl)
            · skip
              refine x_retP (k_XP (n := 0) (As := []) (rest := []) F (k_X2_next x n hR hσ w5 a5 b5 k5 v5 (psOk.w hs5)) ⟨rfl, rfl⟩ ⟨Nat.le_of_ble_eq_true rfl, Nat.le_of_ble_eq_true rfl⟩ q952 q954 qs29 q96 q955 (by decide +kernel) hI hK hSS hS (hw.recv hI hK (cf_reader) rfl) rfl hl.1 rfl (Nat.le_of_ble_eq_true rfl) dX2_whole_24 ⟨Nat.le_of_ble_eq_true rfl, Nat.le_of_ble_eq_true rfl⟩) (by rw [hq3]; rfl) hS (fun H1 locs1 hI hS => ?_)
              obtain ⟨hs3, hw3, hm3, hg3, hn3⟩ := next_ok hrN (psOk.w hs5) hq3
              have hw3 : w5 = w3 := hw3.symm
              subst hw3
              have hv3 : k3 = 1 ∨ k3 = 2 → v3 < 1000000 := hs3.2.2.2
              have ha3 : a3 ≤ n := hs3.2.1
              have hk3 : k3 < 4 := hs3.2.2.1
              refine lv_aload_n hx hb dX2_whole_27 rfl (lv_at hl 0 rfl) ?_
              rcases hq4 : iteP (x.2.1 2) n (w5, a3, b3, k3, v3) with bq | ⟨w4, a4, b4, k4, v4⟩
              · exact x_thrP (k_XP (n := 0) (As := []) (rest := []) F (k_X2_item x n hR hσ w5 a3 b3 k3 v3 hs3) ⟨rfl, rfl⟩ ⟨Nat.le_of_ble_eq_true rfl, Nat.le_of_ble_eq_true rfl⟩ q1025 q1027 qs35 q96 q1028 (by decide +kernel) hI hK hSS hS (hw.recv hI hK (cf_reader) rfl) rfl hl.1 rfl (Nat.le_of_ble_eq_true rfl) dX2_whole_28 ⟨Nat.le_of_ble_eq_true rfl, Nat.le_of_ble_eq_true rfl⟩) (by rw [hq4]; rfl) hS hlocks hout (jk_rd _ _ _) (by rw [hq5, wh_3 c_20]; simp only [hq3, hq4]; rfl)
              · skip
                refine x_retP (k_XP (n := 0) (As := []) (rest := []) F (k_X2_item x n hR hσ w5 a3 b3 k3 v3 hs3) ⟨rfl, rfl⟩ ⟨Nat.le_of_ble_eq_true rfl, Nat.le_of_ble_eq_true rfl⟩ q1025 q1027 qs35 q96 q1028 (by decide +kernel) hI hK hSS hS (hw.recv hI hK (cf_reader) rfl) rfl hl.1 rfl (Nat.le_of_ble_eq_true rfl) dX2_whole_28 ⟨Nat.le_of_ble_eq_true rfl, Nat.le_of_ble_eq_true rfl⟩) (by rw [hq4]; rfl) hS (fun H1 locs1 hI hS => ?_)
                obtain ⟨hs4, hg4⟩ := ite_ok hrN hs3 hq4
                have hv4 : k4 = 1 ∨ k4 = 2 → v4 < 1000000 := hs4.2.2.2
                have ha4 : a4 ≤ n := hs4.2.1
                have hk4 : k4 < 4 := hs4.2.2.1
                have h2_4 : k3 = 2 := ite_2 hq4
                have h2_4 := hn3 h2_4
                have h2_4 : a5 < a3 := h2_4
                have hg4 : a3 ≤ a4 := hg4
                refine lv_iinc (v := (nI (c9 + 1))) (lv' := [(1, .int (nI (c9 + 1))), (0, .ref (L 46))]) hx hb dX2_whole_31 hl (k := 1) rfl (nI_1 _) (by decide) rfl (fun ls hl => ?_)
                refine lv_goto (tgt := 15) hx hb dX2_whole_34 (by decide) ?_
                exact ih15 (f) (c9 + 1) (w4) (a4) (b4) (k4) (v4) (hs4) (by omega) (by rw [hq5, wh_3 c_20]; simp only [hq3, hq4]) (by omega) (by omega) _ (rfl) _ _ hI hS ls (lv_sub hl [1, 0] rfl)
      exact lp15 (_ + 1) (200) (1) (w2) (a2) (b2) (k2) (v2) (hs2) (by omega) (by simp only [txtP, hq1, hq2]) (by omega) (Nat.lt_succ_self _) _ (rfl) _ _ hI hS ls (lv_sub hl [1, 0] rfl)
