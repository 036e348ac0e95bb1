/-! LeftGlovesModel: acts -/
theorem whS_isi (f : wd) (room : Int32) (k : Nat) (a : Int32) : whS f room k a = a ||| (if isiI f k room = 0 then 0 else b1 k) := by
  unfold whS isiI
  by_cases h1 : hsI (f 1 1) (nI k) = 0
  · by_cases h2 : f (2 + 1) k = room
    · simp [h1, h2]
    · simp [h1, h2]
  · simp [h1]
theorem tp_m {v : Int32} (h : sOk v) : v / 10 - v / 10 / 100 * 100 = tpI v := by
  obtain ⟨a, b, c, ha, hb, hc, rfl⟩ := h
  rw [(tp_n ha hb hc).1, (tp_n ha hb hc).2]
theorem a_room_0 (f : wd) (r : Int32) : a_room f r (nI 0) = if inI r 0 5 = 0 then .inl 0 else .inr (whI f r, f) := rfl
theorem a_room_1 (f : wd) (r : Int32) : a_room f r (nI 1) = if inI r 0 5 = 0 then .inl 0 else .inr (hiI f r, f) := rfl
theorem a_room_2 (f : wd) (r : Int32) : a_room f r (nI 2) = if inI r 0 5 = 0 then .inl 0 else .inr (knI f 3 (whI f r), f) := rfl
theorem a_room_3 (f : wd) (r : Int32) : a_room f r (nI 3) = if inI r 0 5 = 0 then .inl 0 else .inr (siI f r, f) := rfl
theorem kd_n {f : wd} (h : wOk f) {k : Nat} (hk : k < 8) : kdI (kN f k) = f (2 + 0) k := by
  obtain ⟨h1, h2⟩ := h.k hk
  rw [h1]
  generalize kN f k = κ at h2
  match κ, h2 with
  | 0, _ => rfl
  | 1, _ => rfl
  | 2, _ => rfl
  | 3, _ => rfl
  | 4, _ => rfl
  | 5, _ => rfl
  | 6, _ => rfl
theorem in_out {w : Int32} {a b c d : Nat} (hc : c ≤ a) (hd : b ≤ d) (ha : a < 2 ^ 31) (hd2 : d < 2 ^ 31) (h : inI w (nI c) (nI d) = 0) : inI w (nI a) (nI b) = 0 := by
  by_cases h2 : inI w (nI a) (nI b) = 0
  · exact h2
  · obtain ⟨k, h3, h4, rfl⟩ := inI_to1 (a := a) (b := b) rfl rfl (by omega) (by omega) h2
    rw [in_nat (by omega) (by omega) (by omega), if_neg (by omega), if_neg (by omega)] at h
    exact absurd h (by decide)
theorem ne_out {w v : Int32} {c d q : Nat} (hv : v = nI q) (hc : c ≤ q) (hd : q ≤ d) (hd2 : d < 2 ^ 31) (h : inI w (nI c) (nI d) = 0) : ¬ w = v := by
  rintro rfl
  rw [hv] at h
  rw [in_nat (by omega) (by omega) (by omega), if_neg (by omega), if_neg (by omega)] at h
  exact absurd h (by decide)
theorem a_of_out {f : wd} {g w : Int32} (h : inI w 0 10 = 0) : a_of f g w = .inl 0 := by
  unfold a_of
  have e1 : inI w 1 6 = 0 := in_out (a := 1) (b := 6) (c := 0) (d := 10) (by decide) (by decide) (by decide) (by decide) h
  rw [e1, if_pos rfl, if_neg (ne_out (v := 0) (c := 0) (d := 10) (q := 0) rfl (by decide) (by decide) (by decide) h), if_neg (ne_out (v := 7) (c := 0) (d := 10) (q := 7) rfl (by decide) (by decide) (by decide) h), if_neg (ne_out (v := 8) (c := 0) (d := 10) (q := 8) rfl (by decide) (by decide) (by decide) h), if_neg (ne_out (v := 9) (c := 0) (d := 10) (q := 9) rfl (by decide) (by decide) (by decide) h), if_neg (ne_out (v := 10) (c := 0) (d := 10) (q := 10) rfl (by decide) (by decide) (by decide) h), ite_self]
theorem a_room_out {f : wd} {r w : Int32} (h : inI w 0 3 = 0) : a_room f r w = .inl 0 := by
  unfold a_room
  rw [if_neg (ne_out (v := 0) (c := 0) (d := 3) (q := 0) rfl (by decide) (by decide) (by decide) h), if_neg (ne_out (v := 1) (c := 0) (d := 3) (q := 1) rfl (by decide) (by decide) (by decide) h), if_neg (ne_out (v := 2) (c := 0) (d := 3) (q := 2) rfl (by decide) (by decide) (by decide) h), if_neg (ne_out (v := 3) (c := 0) (d := 3) (q := 3) rfl (by decide) (by decide) (by decide) h), ite_self]
/-- the asked for, by its number -/
def of_v (f : wd) (k : Nat) (w : Int32) : act := if w = 7 then .inr (ndI f (kN f k) k, f) else if w = 8 then .inr (huI f (kN f k) k, f) else if w = 9 then .inr (styI (kN f k), f) else .inr (kpI (kN f k), f)
theorem a_of_v {f : wd} {g w v : Int32} (h : w = v) (hg : ¬ isGlI f g = 0) (hv : v = 7 ∨ v = 8 ∨ v = 9 ∨ v = 10 := by decide) : a_of f g w = of_v f g.toNatClampNeg v := by
  subst h
  rcases hv with h | h | h | h
  · subst h; unfold a_of; rw [if_neg hg]; rfl
  · subst h; unfold a_of; rw [if_neg hg]; rfl
  · subst h; unfold a_of; rw [if_neg hg]; rfl
  · subst h; unfold a_of; rw [if_neg hg]; rfl
theorem a_of_lt {f : wd} {g : Int32} {q k : Nat} (hO : wOk f) (hq : q ≤ 6) (hg : ¬ isGlI f g = 0) (eg : g.toNatClampNeg = k) (hk : k < 8) : a_of f g (nI q) = .inr (f (2 + q) k, f) := by
  unfold a_of
  rw [if_neg hg, eg, show (1 : Int32) = nI 1 from rfl, show (6 : Int32) = nI 6 from rfl, in_nat (by omega) (by decide) (by decide)]
  by_cases h0 : q = 0
  · subst h0
    rw [if_pos (show 0 < 1 by decide), if_pos rfl, if_pos (show nI 0 = (0 : Int32) from rfl), kd_n hO hk]
  · rw [if_neg (show ¬ q < 1 by omega), if_neg (show ¬ 6 < q by omega), if_neg (by decide), nI_clamp (by omega)]
theorem tld_m (w v : Int32) : isTldI w v = if inI w 0 6 = 0 then 0 else inI v 0 (moI w) := by
  unfold isTldI
  by_cases h : inI w 0 6 = 0
  · have hne : ∀ q, q ≤ 6 → ∀ v, v = nI q → ¬ w = v := fun q hq v hv => ne_out (c := 0) (d := 6) (q := q) hv (by omega) hq (by decide) h
    rw [if_pos h, if_neg (hne 0 (by decide) 0 rfl), if_neg (hne 1 (by decide) 1 rfl), if_neg (hne 2 (by decide) 2 rfl), if_neg (hne 3 (by decide) 3 rfl), if_neg (hne 4 (by decide) 4 rfl), if_neg (hne 5 (by decide) 5 rfl), if_neg (hne 6 (by decide) 6 rfl)]
  · rw [if_neg h]
    obtain ⟨q, hq, rfl⟩ := inI_to (b := 6) rfl (by decide) h
    match q, hq with
    | 0, _ => rfl
    | 1, _ => rfl
    | 2, _ => rfl
    | 3, _ => rfl
    | 4, _ => rfl
    | 5, _ => rfl
    | 6, _ => rfl
def whr (h : Int32) : Nat := if h = 0 then 3 else 5
theorem who_b (v t : Int32) (k : Nat) : ((v >>> (t &&& 31)) &&& 1) <<< (nI k &&& 31) = if hsI v t = 0 then 0 else b1 k := by
  rcases and1_01 (v >>> (t &&& 31)) with h | h
  · rw [if_pos (hs_0.mpr h), h]
    exact i32_ext (by simp [Int32.toBitVec_shiftLeft])
  · rw [if_neg (hs_1.mpr h), h]; rfl
theorem a_who_m {f : wd} {t h : Int32} (h1 : ¬ inI t 0 15 = 0) (h2 : ¬ inI h 0 1 = 0) : a_who f t h = .inr (woI f t (whr h), f) := by
  unfold a_who whr
  rw [if_neg h1, if_neg h2]
  split <;> rfl
theorem in3_a {w : Int32} (h : ¬ inI w 0 3 = 0) (h2 : ¬ w < 3) : w = 3 := by
  obtain ⟨q, hq, rfl⟩ := inI_to (b := 3) rfl (by decide) h
  have : ¬ q < 3 := fun z => h2 ((nI_ltI (by omega) (by decide)).mpr z)
  rw [show q = 3 by omega]; rfl
theorem in3_b {w : Int32} (h : ¬ inI w 0 3 = 0) (h2 : w < 3) (h0 : ¬ w = 0) (h1 : ¬ w = 1) : w = 2 := by
  obtain ⟨q, hq, rfl⟩ := inI_to (b := 3) rfl (by decide) h
  have a : q < 3 := (nI_ltI (b := 3) (by omega) (by decide)).mp h2
  match q, a, h0, h1 with
  | 0, _, h0, _ => exact absurd rfl h0
  | 1, _, _, h1 => exact absurd rfl h1
  | 2, _, _, _ => rfl
theorem k_X13_say {l : Launch} {D : va_G} {L : Nat → Nat} {A : Nat → Prop} (x : mst) (i v : Int32) : Met l yX13_say (ws_ yX13_say cX13_say 3 (some .int)) ({ frames := 2, cells := 0, slots := 0, locals := 45 } : Room) (va_Pc [.ref (L 0), .int i, .int v] (pI D (cfM D L x) A)) (nQ D (cfM D L (aM x (a_say (x.1 0) i v))) A (some (.int (aR (a_say (x.1 0) i v))))) 0 0 A := by
  refine met_I (by decide) rfl (Nat.le_of_ble_eq_true rfl) ?_
  intro p e s m below meth c ls hx hb hr hml hown hts hlocks hl hI hK
  have F : CallFix p m c cX13_say 3 s _ lw_all RX13 := ⟨hx, hb, hml, hown, hts⟩
  have hl : lv_has ls 3 [(0, .ref (L 0)), (1, .int i), (2, .int v)] := hl
  have hS : va_S A s.heap s.heap [] := va_S.rf
  refine lv_iload_n hx hb dX13_say_0 rfl (lv_at hl 1 rfl) ?_
  refine c_r (k_S (As := [.int i]) (rest := []) F (k_X13_isPlace i) (va_cwS 1 hts (lw_S q1223 q1224 q107 q1225) rfl rfl rfl (by decide +kernel) ⟨Nat.le_of_ble_eq_true rfl, Nat.le_of_ble_eq_true rfl⟩) rfl hl.1 rfl (Nat.le_of_ble_eq_true rfl) dX13_say_1 ⟨Nat.le_of_ble_eq_true rfl, Nat.le_of_ble_eq_true rfl⟩) ?_
  refine lv_if_eq (tgt := 25) hx hb dX13_say_4 (by decide) (fun c_4 => ?_) (fun c_4 => ?_)
  · skip
    refine lv_aload_n hx hb dX13_say_25 rfl (lv_at hl 0 rfl) ?_
    refine lv_iconst (v := 0) hx hb dX13_say_26 (by decide) ?_
    refine c_m (k_V (As := [.int 0]) (rest := []) F (k_X13_finds x 0 (by decide)) (cwV 1 hts (lw_V q1238 q1240 qs47 q107 q1241) rfl rfl rfl (by decide +kernel) ⟨Nat.le_of_ble_eq_true rfl, Nat.le_of_ble_eq_true rfl⟩) hI hK (hw.recv hI hK (mf_main) rfl) rfl hl.1 rfl (Nat.le_of_ble_eq_true rfl) dX13_say_27 ⟨Nat.le_of_ble_eq_true rfl, Nat.le_of_ble_eq_true rfl⟩) hS (fun H1 locs1 hI hS => ?_)
    obtain ⟨x1, ex1⟩ : ∃ z, z = (fndM x 0) := ⟨_, rfl⟩
    rw [← ex1] at hI
    exact W.iret hx hb hr (fun t ht _ => ⟨rI (by first | (simp only [a_say, aR, if_pos c_4]; done) | (simp [a_say, aR, c_4]; done)), by rw [ht]; exact hw_eq hI (congrArg (cfM D L) (by first | (rw [ex1]; simp only [a_say, aM, if_pos c_4]; done) | (simp only [a_say, aM, ys_self, if_pos c_4]; done) | (rw [ex1]; simp [a_say, aM, c_4]; done) | (simp [a_say, aM, c_4, ys_self]; done))), hS.F ht⟩) hS.2.2 dX13_say_30
  · skip
    refine lv_iload_n hx hb dX13_say_7 rfl (lv_at hl 2 rfl) ?_
    refine c_r (k_S (As := [.int v]) (rest := []) F (k_X13_isSaying v) (va_cwS 1 hts (lw_S q1230 q1231 q107 q1232) rfl rfl rfl (by decide +kernel) ⟨Nat.le_of_ble_eq_true rfl, Nat.le_of_ble_eq_true rfl⟩) rfl hl.1 rfl (Nat.le_of_ble_eq_true rfl) dX13_say_8 ⟨Nat.le_of_ble_eq_true rfl, Nat.le_of_ble_eq_true rfl⟩) ?_
    refine lv_if_eq (tgt := 25) hx hb dX13_say_11 (by decide) (fun c_11 => ?_) (fun c_11 => ?_)
    · skip
      refine lv_aload_n hx hb dX13_say_25 rfl (lv_at hl 0 rfl) ?_
      refine lv_iconst (v := 0) hx hb dX13_say_26 (by decide) ?_
      refine c_m (k_V (As := [.int 0]) (rest := []) F (k_X13_finds x 0 (by decide)) (cwV 1 hts (lw_V q1238 q1240 qs47 q107 q1241) rfl rfl rfl (by decide +kernel) ⟨Nat.le_of_ble_eq_true rfl, Nat.le_of_ble_eq_true rfl⟩) hI hK (hw.recv hI hK (mf_main) rfl) rfl hl.1 rfl (Nat.le_of_ble_eq_true rfl) dX13_say_27 ⟨Nat.le_of_ble_eq_true rfl, Nat.le_of_ble_eq_true rfl⟩) hS (fun H1 locs1 hI hS => ?_)
      obtain ⟨x2, ex2⟩ : ∃ z, z = (fndM x 0) := ⟨_, rfl⟩
      rw [← ex2] at hI
      exact W.iret hx hb hr (fun t ht _ => ⟨rI (by first | (simp only [a_say, aR, if_neg c_4, if_pos c_11]; done) | (simp [a_say, aR, c_4, c_11]; done)), by rw [ht]; exact hw_eq hI (congrArg (cfM D L) (by first | (rw [ex2]; simp only [a_say, aM, if_neg c_4, if_pos c_11]; done) | (simp only [a_say, aM, ys_self, if_neg c_4, if_pos c_11]; done) | (rw [ex2]; simp [a_say, aM, c_4, c_11]; done) | (simp [a_say, aM, c_4, c_11, ys_self]; done))), hS.F ht⟩) hS.2.2 dX13_say_30
    · skip
      obtain ⟨j, hj, ei⟩ := inI_to (b := 5) rfl (by decide) c_4
      have ei2 : i.toNatClampNeg = j := by rw [ei, nI_clamp (by omega)]
      subst ei
      refine lv_aload_n hx hb dX13_say_14 rfl (lv_at hl 0 rfl) ?_
      refine lv_iconst (v := 3) hx hb dX13_say_15 (by decide) ?_
      refine lv_iload_n hx hb dX13_say_16 rfl (lv_at hl 1 rfl) ?_
      refine lv_iadd hx hb dX13_say_17 ?_
      refine lv_iload_n hx hb dX13_say_18 rfl (lv_at hl 2 rfl) ?_
      refine c_m (k_V (As := [.int ((3 : Int32) + (nI j)), .int v]) (rest := []) F (k_X13_becomes_l x v ((3 : Int32) + (nI j)) j (by omega) (na_add (rfl) (rfl))) (cwV 2 hts (lw_V q1234 q1236 qs46 q107 q1237) rfl rfl rfl (by decide +kernel) ⟨Nat.le_of_ble_eq_true rfl, Nat.le_of_ble_eq_true rfl⟩) hI hK (hw.recv hI hK (mf_main) rfl) rfl hl.1 rfl (Nat.le_of_ble_eq_true rfl) dX13_say_19 ⟨Nat.le_of_ble_eq_true rfl, Nat.le_of_ble_eq_true rfl⟩) hS (fun H1 locs1 hI hS => ?_)
      obtain ⟨x3, ex3⟩ : ∃ z, z = ys x 0 (u2 (x.1 0) 0 j v) := ⟨_, rfl⟩
      rw [← ex3] at hI
      refine lv_goto (tgt := 30) hx hb dX13_say_22 (by decide) ?_
      exact W.iret hx hb hr (fun t ht _ => ⟨rI (by first | (simp only [a_say, aR, if_neg c_4, if_neg c_11, ei2]; done) | (simp [a_say, aR, c_4, c_11, ei2]; done)), by rw [ht]; exact hw_eq hI (congrArg (cfM D L) (by first | (rw [ex3]; simp only [a_say, aM, if_neg c_4, if_neg c_11, ei2]; done) | (simp only [a_say, aM, ys_self, if_neg c_4, if_neg c_11, ei2]; done) | (rw [ex3]; simp [a_say, aM, c_4, c_11, ei2]; done) | (simp [a_say, aM, c_4, c_11, ei2, ys_self]; done))), hS.F ht⟩) hS.2.2 dX13_say_30
theorem k_X13_said {l : Launch} {D : va_G} {L : Nat → Nat} {A : Nat → Prop} (x : mst) (i : Int32) : Met l yX13_said (ws_ yX13_said cX13_said 2 (some .int)) ({ frames := 2, cells := 0, slots := 0, locals := 45 } : Room) (va_Pc [.ref (L 0), .int i] (pI D (cfM D L x) A)) (nQ D (cfM D L (aM x (a_said (x.1 0) i))) A (some (.int (aR (a_said (x.1 0) i))))) 0 0 A := by
  refine met_I (by decide) rfl (Nat.le_of_ble_eq_true rfl) ?_
  intro p e s m below meth c ls hx hb hr hml hown hts hlocks hl hI hK
  have F : CallFix p m c cX13_said 2 s _ lw_all RX13 := ⟨hx, hb, hml, hown, hts⟩
  have hl : lv_has ls 2 [(0, .ref (L 0)), (1, .int i)] := hl
  have hS : va_S A s.heap s.heap [] := va_S.rf
  refine lv_iload_n hx hb dX13_said_0 rfl (lv_at hl 1 rfl) ?_
  refine c_r (k_S (As := [.int i]) (rest := []) F (k_X13_isPlace i) (va_cwS 1 hts (lw_S q1223 q1224 q107 q1225) rfl rfl rfl (by decide +kernel) ⟨Nat.le_of_ble_eq_true rfl, Nat.le_of_ble_eq_true rfl⟩) rfl hl.1 rfl (Nat.le_of_ble_eq_true rfl) dX13_said_1 ⟨Nat.le_of_ble_eq_true rfl, Nat.le_of_ble_eq_true rfl⟩) ?_
  refine lv_if_eq (tgt := 18) hx hb dX13_said_4 (by decide) (fun c_4 => ?_) (fun c_4 => ?_)
  · skip
    refine lv_aload_n hx hb dX13_said_18 rfl (lv_at hl 0 rfl) ?_
    refine lv_iconst (v := 0) hx hb dX13_said_19 (by decide) ?_
    refine c_m (k_V (As := [.int 0]) (rest := []) F (k_X13_finds x 0 (by decide)) (cwV 1 hts (lw_V q1238 q1240 qs47 q107 q1241) rfl rfl rfl (by decide +kernel) ⟨Nat.le_of_ble_eq_true rfl, Nat.le_of_ble_eq_true rfl⟩) hI hK (hw.recv hI hK (mf_main) rfl) rfl hl.1 rfl (Nat.le_of_ble_eq_true rfl) dX13_said_20 ⟨Nat.le_of_ble_eq_true rfl, Nat.le_of_ble_eq_true rfl⟩) hS (fun H1 locs1 hI hS => ?_)
    obtain ⟨x1, ex1⟩ : ∃ z, z = (fndM x 0) := ⟨_, rfl⟩
    rw [← ex1] at hI
    exact W.iret hx hb hr (fun t ht _ => ⟨rI (by first | (simp only [a_said, aR, if_pos c_4]; done) | (simp [a_said, aR, c_4]; done)), by rw [ht]; exact hw_eq hI (congrArg (cfM D L) (by first | (rw [ex1]; simp only [a_said, aM, if_pos c_4]; done) | (simp only [a_said, aM, ys_self, if_pos c_4]; done) | (rw [ex1]; simp [a_said, aM, c_4]; done) | (simp [a_said, aM, c_4, ys_self]; done))), hS.F ht⟩) hS.2.2 dX13_said_23
  · skip
    obtain ⟨j, hj, ei⟩ := inI_to (b := 5) rfl (by decide) c_4
    have ei2 : i.toNatClampNeg = j := by rw [ei, nI_clamp (by omega)]
    subst ei
    refine lv_aload_n hx hb dX13_said_7 rfl (lv_at hl 0 rfl) ?_
    refine r_get (C := RX13) (T := TX13) (N := 18) hx hb hts in_X13 hown hK hI (mf_main) rfl 0 (by decide) (hts _ q1164) (fun _ h => h) rfl dX13_said_8 ?_
    refine lv_iconst (v := 3) hx hb dX13_said_11 (by decide) ?_
    refine lv_iload_n hx hb dX13_said_12 rfl (lv_at hl 1 rfl) ?_
    refine lv_iadd hx hb dX13_said_13 ?_
    refine n_ialdv (k := (3 + j)) (v := (x.1 0 0 j)) hx hb hK hI (mf_d) (na_add (rfl) (rfl)) (by omega) (by decide) (md_list _ (by omega)) dX13_said_14 ?_
    refine lv_goto (tgt := 23) hx hb dX13_said_15 (by decide) ?_
    exact W.iret hx hb hr (fun t ht _ => ⟨rI (by first | (simp only [a_said, aR, if_neg c_4, ei2]; done) | (simp [a_said, aR, c_4, ei2]; done)), by rw [ht]; exact hw_eq hI (congrArg (cfM D L) (by first | (rw []; simp only [a_said, aM, if_neg c_4, ei2]; done) | (simp only [a_said, aM, ys_self, if_neg c_4, ei2]; done) | (rw []; simp [a_said, aM, c_4, ei2]; done) | (simp [a_said, aM, c_4, ei2, ys_self]; done))), hS.F ht⟩) hS.2.2 dX13_said_23
theorem k_X13_room {l : Launch} {D : va_G} {L : Nat → Nat} {A : Nat → Prop} (x : mst) (hO : wOk (x.1 0)) (r w : Int32) : Met l yX13_room (ws_ yX13_room cX13_room 6 (some .int)) ({ frames := 3, cells := 0, slots := 0, locals := 67 } : Room) (va_Pc [.ref (L 0), .int r, .int w] (pI D (cfM D L x) A)) (nQ D (cfM D L (aM x (a_room (x.1 0) r w))) A (some (.int (aR (a_room (x.1 0) r w))))) 0 0 A := by
  refine met_I (by decide) rfl (Nat.le_of_ble_eq_true rfl) ?_
  intro p e s m below meth c ls hx hb hr hml hown hts hlocks hl hI hK
  have F : CallFix p m c cX13_room 6 s _ lw_all RX13 := ⟨hx, hb, hml, hown, hts⟩
  have hl : lv_has ls 6 [(0, .ref (L 0)), (1, .int r), (2, .int w)] := hl
  have hS : va_S A s.heap s.heap [] := va_S.rf
  obtain ⟨nn, hn, h8⟩ : ∃ n, x.1 0 1 0 = nI n ∧ n ≤ 8 := ⟨_, hO.n⟩
  have hN : wN (x.1 0) = nn := by unfold wN; rw [hn, nI_clamp (by omega)]
  refine lv_iload_n hx hb dX13_room_0 rfl (lv_at hl 1 rfl) ?_
  refine c_r (k_S (As := [.int r]) (rest := []) F (k_X13_isPlace r) (va_cwS 1 hts (lw_S q1223 q1224 q107 q1225) rfl rfl rfl (by decide +kernel) ⟨Nat.le_of_ble_eq_true rfl, Nat.le_of_ble_eq_true rfl⟩) rfl hl.1 rfl (Nat.le_of_ble_eq_true rfl) dX13_room_1 ⟨Nat.le_of_ble_eq_true rfl, Nat.le_of_ble_eq_true rfl⟩) ?_
  refine lv_if_eq (tgt := 19) hx hb dX13_room_4 (by decide) (fun c_4 => ?_) (fun c_4 => ?_)
  · skip
    refine lv_aload_n hx hb dX13_room_19 rfl (lv_at hl 0 rfl) ?_
    refine lv_iconst (v := 0) hx hb dX13_room_20 (by decide) ?_
    refine c_m (k_V (As := [.int 0]) (rest := []) F (k_X13_finds x 0 (by decide)) (cwV 1 hts (lw_V q1238 q1240 qs47 q107 q1241) rfl rfl rfl (by decide +kernel) ⟨Nat.le_of_ble_eq_true rfl, Nat.le_of_ble_eq_true rfl⟩) hI hK (hw.recv hI hK (mf_main) rfl) rfl hl.1 rfl (Nat.le_of_ble_eq_true rfl) dX13_room_21 ⟨Nat.le_of_ble_eq_true rfl, Nat.le_of_ble_eq_true rfl⟩) hS (fun H1 locs1 hI hS => ?_)
    obtain ⟨x1, ex1⟩ : ∃ z, z = (fndM x 0) := ⟨_, rfl⟩
    rw [← ex1] at hI
    exact W.iret hx hb hr (fun t ht _ => ⟨rI (by first | (simp [a_room, aR, c_4]; done) | (rw [a_room_out c_16]; rfl)), by rw [ht]; exact hw_eq hI (congrArg (cfM D L) (by first | (rw [ex1]; simp [a_room, aM, c_4]; done) | (rw [ex1, a_room_out c_16]; rfl))), hS.F ht⟩) hS.2.2 dX13_room_24
  · skip
    refine lv_iload_n hx hb dX13_room_7 rfl (lv_at hl 2 rfl) ?_
    refine lv_i2l (v := (w : Int32).toInt64) hx hb dX13_room_8 rfl ?_
    refine lv_lconst (v := 0) hx hb dX13_room_9 (by decide) ?_
    refine lv_ldc2 (v := 3) hx hb hown (hts _ q1251) dX13_room_10 ?_
    refine c_r (k_S (As := [.long ((w : Int32).toInt64), .long 0, .long 3]) (rest := []) F (k_X13_in w 0 3 ((w : Int32).toInt64 : Int64) (0 : Int64) (3 : Int64) rfl (by decide) (by decide)) (va_cwS 3 hts (lw_S q1227 q1228 q107 q1229) rfl rfl rfl (by decide +kernel) ⟨Nat.le_of_ble_eq_true rfl, Nat.le_of_ble_eq_true rfl⟩) rfl hl.1 rfl (Nat.le_of_ble_eq_true rfl) dX13_room_13 ⟨Nat.le_of_ble_eq_true rfl, Nat.le_of_ble_eq_true rfl⟩) ?_
    refine lv_if_ne (tgt := 25) hx hb dX13_room_16 (by decide) (fun c_16 => ?_) (fun c_16 => ?_)
    · skip
      refine lv_iconst (v := 0) hx hb dX13_room_25 (by decide) ?_
      refine lv_istore_n (lv' := [(3, .int 0), (0, .ref (L 0)), (1, .int r), (2, .int w)]) hx hb dX13_room_26 rfl hl (by decide) rfl (fun ls hl => ?_)
      refine lv_iconst (v := 0) hx hb dX13_room_27 (by decide) ?_
      refine lv_istore (lv' := [(4, .int 0), (3, .int 0), (0, .ref (L 0)), (1, .int r), (2, .int w)]) hx hb dX13_room_28 hl (by decide) rfl (fun ls hl => ?_)
      have lp30 : ∀ (fuel : Nat) (i : Nat), (i ≤ nn) → nn - i < fuel → ∀ (v3 : Int32) (v4 : Int32), v3 = itr (whS (x.1 0) r) 0 i → v4 = nI i → ∀ (xc30 : mst), xc30 = x → ∀ (H : Heap) (locs : List Loc), hw D (cfM D L xc30) A H → va_S A s.heap H locs → ∀ (ls : Array Slot), lv_has ls 6 [(0, .ref (L 0)), (1, .int r), (2, .int w), (3, .int v3), (4, .int v4)] → W p l e ({ frames := 3, cells := 0, slots := 0, locals := 67 } : Room) s m ([.ref (L 0), .int r, .int w] : List Value).toArray below meth c H locs 0 0 (MQ below (nQ D (cfM D L (aM x (a_room (x.1 0) r w))) A (some (.int (aR (a_room (x.1 0) r w))))) ([.ref (L 0), .int r, .int w] : List Value).toArray s 0 0 A) (F0 m 30 ls []) := by
        intro fuel
        induction fuel with
        | zero => intro i hi hf; exact absurd hf (Nat.not_lt_zero _)
        | succ fuel ih30 =>
          intro i hi hf30 v3 v4 e3 e4  xc30 exc30 H locs hI hS ls hl
          subst e3 e4
          have hq1 : xc30.1 0 1 0 = nI nn := by rw [exc30]; exact hn
          have hO_xc30 : wOk (xc30.1 0) := by rw [exc30]; exact hO
          refine lv_iload hx hb dX13_room_30 (lv_at hl 4 rfl) ?_
          refine lv_aload_n hx hb dX13_room_32 rfl (lv_at hl 0 rfl) ?_
          refine r_get (C := RX13) (T := TX13) (N := 18) hx hb hts in_X13 hown hK hI (mf_main) rfl 0 (by decide) (hts _ q1164) (fun _ h => h) rfl dX13_room_33 ?_
          refine lv_iconst (v := 0) hx hb dX13_room_36 (by decide) ?_
          refine n_ialdv (k := 0) (v := (xc30.1 0 1 0)) hx hb hK hI (mf_d) (rfl) (by decide) (by decide) (rfl) dX13_room_37 ?_
          refine lv_icmp_ge (tgt := 68) hx hb dX13_room_38 (by decide) (fun c_38 => ?_) (fun c_38 => ?_)
          · skip
            have c_38 : nn ≤ i := (nle (a := nn) (b := i) (hq1) (rfl) (by omega) (by omega)).mp c_38
            have hwh : itr (whS (x.1 0) r) 0 i = whI (x.1 0) r := by rw [whI, hN, show i = nn by omega]
            refine lv_iload_n hx hb dX13_room_68 rfl (lv_at hl 2 rfl) ?_
            refine lv_iconst (v := 3) hx hb dX13_room_69 (by decide) ?_
            refine lv_icmp_ge (tgt := 101) hx hb dX13_room_70 (by decide) (fun c_70 => ?_) (fun c_70 => ?_)
            · skip
              have c_70 := Int32.not_lt.mpr c_70
              have hw3 : w = 3 := in3_a c_16 c_70
              refine lv_iconst (v := 0) hx hb dX13_room_101 (by decide) ?_
              refine lv_istore (lv' := [(4, .int 0), (0, .ref (L 0)), (1, .int r), (2, .int w), (3, .int (itr (whS (x.1 0) r) 0 i))]) hx hb dX13_room_102 hl (by decide) rfl (fun ls hl => ?_)
              refine lv_iconst (v := 0) hx hb dX13_room_104 (by decide) ?_
              refine lv_istore (lv' := [(5, .int 0), (4, .int 0), (0, .ref (L 0)), (1, .int r), (2, .int w), (3, .int (itr (whS (x.1 0) r) 0 i))]) hx hb dX13_room_105 hl (by decide) rfl (fun ls hl => ?_)
              have lp107 : ∀ (fuel : Nat) (i2 : Nat), (i2 ≤ 6) → 6 - i2 < fuel → ∀ (v4 : Int32) (v5 : Int32), v4 = itr (siS (x.1 0) r) 0 i2 → v5 = nI i2 → ∀ (xc107 : mst), xc107 = x → ∀ (H : Heap) (locs : List Loc), hw D (cfM D L xc107) A H → va_S A s.heap H locs → ∀ (ls : Array Slot), lv_has ls 6 [(0, .ref (L 0)), (1, .int r), (2, .int w), (3, .int (itr (whS (x.1 0) r) 0 i)), (4, .int v4), (5, .int v5)] → W p l e ({ frames := 3, cells := 0, slots := 0, locals := 67 } : Room) s m ([.ref (L 0), .int r, .int w] : List Value).toArray below meth c H locs 0 0 (MQ below (nQ D (cfM D L (aM x (a_room (x.1 0) r w))) A (some (.int (aR (a_room (x.1 0) r w))))) ([.ref (L 0), .int r, .int w] : List Value).toArray s 0 0 A) (F0 m 107 ls []) := by
                intro fuel
                induction fuel with
                | zero => intro i2 hi2 hf; exact absurd hf (Nat.not_lt_zero _)
                | succ fuel ih107 =>
                  intro i2 hi2 hf107 v4 v5 e4 e5  xc107 exc107 H locs hI hS ls hl
                  subst e4 e5
                  refine lv_iload hx hb dX13_room_107 (lv_at hl 5 rfl) ?_
                  refine lv_bipush (v := 6) hx hb dX13_room_109 (by decide) ?_
                  refine lv_icmp_ge (tgt := 163) hx hb dX13_room_111 (by decide) (fun c_111 => ?_) (fun c_111 => ?_)
                  · skip
                    have c_111 : 6 ≤ i2 := (nle (a := 6) (b := i2) (rfl) (rfl) (by omega) (by omega)).mp c_111
                    refine lv_iload hx hb dX13_room_163 (lv_at hl 4 rfl) ?_
                    exact W.iret hx hb hr (fun t ht _ => ⟨rI (by rw [hw3, show itr (siS (x.1 0) r) 0 i2 = siI (x.1 0) r by rw [siI, show i2 = 6 by omega]]; simp [a_room, aR, c_4]), by rw [ht]; exact hw_eq hI (congrArg (cfM D L) (by rw [exc107, hw3]; simp [a_room, aM, c_4, ys_self])), hS.F ht⟩) hS.2.2 dX13_room_165
                  · skip
                    have c_111 : ¬ 6 ≤ i2 := fun z => c_111 ((nle (a := 6) (b := i2) (rfl) (rfl) (by omega) (by omega)).mpr z)
                    refine lv_iload hx hb dX13_room_114 (lv_at hl 4 rfl) ?_
                    refine lv_aload_n hx hb dX13_room_116 rfl (lv_at hl 0 rfl) ?_
                    refine r_get (C := RX13) (T := TX13) (N := 18) hx hb hts in_X13 hown hK hI (mf_main) rfl 0 (by decide) (hts _ q1164) (fun _ h => h) rfl dX13_room_117 ?_
                    refine lv_iconst (v := 3) hx hb dX13_room_120 (by decide) ?_
                    refine lv_iload hx hb dX13_room_121 (lv_at hl 5 rfl) ?_
                    refine lv_iadd hx hb dX13_room_123 ?_
                    refine n_ialdv (k := (3 + i2)) (v := (xc107.1 0 0 i2)) hx hb hK hI (mf_d) (na_add (rfl) (rfl)) (by omega) (by decide) (md_list _ (by omega)) dX13_room_124 ?_
                    refine lv_sipush (v := 1000) hx hb dX13_room_125 (by decide) ?_
                    refine lv_idiv hx hb dX13_room_128 (by decide) ?_
                    refine lv_iload_n hx hb dX13_room_129 rfl (lv_at hl 1 rfl) ?_
                    refine lv_icmp_ne (tgt := 153) hx hb dX13_room_130 (by decide) (fun c_130 => ?_) (fun c_130 => ?_)
                    · skip
                      refine lv_iconst (v := 0) hx hb dX13_room_153 (by decide) ?_
                      refine lv_ior hx hb dX13_room_154 ?_
                      refine lv_istore (lv' := [(4, .int ((itr (siS (x.1 0) r) 0 i2) ||| (0 : Int32))), (0, .ref (L 0)), (1, .int r), (2, .int w), (3, .int (itr (whS (x.1 0) r) 0 i)), (5, .int (nI i2))]) hx hb dX13_room_155 hl (by decide) rfl (fun ls hl => ?_)
                      refine lv_iinc (v := (nI (i2 + 1))) (lv' := [(5, .int (nI (i2 + 1))), (4, .int ((itr (siS (x.1 0) r) 0 i2) ||| (0 : Int32))), (0, .ref (L 0)), (1, .int r), (2, .int w), (3, .int (itr (whS (x.1 0) r) 0 i))]) hx hb dX13_room_157 hl (k := 5) rfl (nI_1 _) (by decide) rfl (fun ls hl => ?_)
                      refine lv_goto (tgt := 107) hx hb dX13_room_160 (by decide) ?_
                      exact ih107 (i2 + 1) (by omega) (by omega) ((itr (siS (x.1 0) r) 0 i2) ||| (0 : Int32)) (nI (i2 + 1)) (by rw [itr_s, siS]; simp only [exc107] at c_130; (try simp only [exc107]); unfold rmI; first | (rw [if_pos c_130, ← tp_m (hO.2.2.1 i2 (by omega))]; done) | (rw [if_neg c_130]; done)) (rfl) xc107 (exc107) _ _ hI hS ls (lv_sub hl [2, 3, 4, 5, 1, 0] rfl)
                    · skip
                      refine lv_iconst (v := 1) hx hb dX13_room_133 (by decide) ?_
                      refine lv_aload_n hx hb dX13_room_134 rfl (lv_at hl 0 rfl) ?_
                      refine r_get (C := RX13) (T := TX13) (N := 18) hx hb hts in_X13 hown hK hI (mf_main) rfl 0 (by decide) (hts _ q1164) (fun _ h => h) rfl dX13_room_135 ?_
                      refine lv_iconst (v := 3) hx hb dX13_room_138 (by decide) ?_
                      refine lv_iload hx hb dX13_room_139 (lv_at hl 5 rfl) ?_
                      refine lv_iadd hx hb dX13_room_141 ?_
                      refine n_ialdv (k := (3 + i2)) (v := (xc107.1 0 0 i2)) hx hb hK hI (mf_d) (na_add (rfl) (rfl)) (by omega) (by decide) (md_list _ (by omega)) dX13_room_142 ?_
                      refine lv_bipush (v := 10) hx hb dX13_room_143 (by decide) ?_
                      refine lv_idiv hx hb dX13_room_145 (by decide) ?_
                      refine lv_bipush (v := 100) hx hb dX13_room_146 (by decide) ?_
                      refine lv_irem hx hb dX13_room_148 (by decide) ?_
                      refine lv_ishl hx hb dX13_room_149 ?_
                      refine lv_goto (tgt := 154) hx hb dX13_room_150 (by decide) ?_
                      refine lv_ior hx hb dX13_room_154 ?_
                      refine lv_istore (lv' := [(4, .int ((itr (siS (x.1 0) r) 0 i2) ||| ((1 : Int32) <<< ((((xc107.1 0 0 i2) / (10 : Int32)) - ((xc107.1 0 0 i2) / (10 : Int32)) / (100 : Int32) * (100 : Int32)) &&& 31)))), (0, .ref (L 0)), (1, .int r), (2, .int w), (3, .int (itr (whS (x.1 0) r) 0 i)), (5, .int (nI i2))]) hx hb dX13_room_155 hl (by decide) rfl (fun ls hl => ?_)
                      refine lv_iinc (v := (nI (i2 + 1))) (lv' := [(5, .int (nI (i2 + 1))), (4, .int ((itr (siS (x.1 0) r) 0 i2) ||| ((1 : Int32) <<< ((((xc107.1 0 0 i2) / (10 : Int32)) - ((xc107.1 0 0 i2) / (10 : Int32)) / (100 : Int32) * (100 : Int32)) &&& 31)))), (0, .ref (L 0)), (1, .int r), (2, .int w), (3, .int (itr (whS (x.1 0) r) 0 i))]) hx hb dX13_room_157 hl (k := 5) rfl (nI_1 _) (by decide) rfl (fun ls hl => ?_)
                      refine lv_goto (tgt := 107) hx hb dX13_room_160 (by decide) ?_
                      exact ih107 (i2 + 1) (by omega) (by omega) ((itr (siS (x.1 0) r) 0 i2) ||| ((1 : Int32) <<< ((((xc107.1 0 0 i2) / (10 : Int32)) - ((xc107.1 0 0 i2) / (10 : Int32)) / (100 : Int32) * (100 : Int32)) &&& 31))) (nI (i2 + 1)) (by rw [itr_s, siS]; simp only [exc107] at c_130; (try simp only [exc107]); unfold rmI; first | (rw [if_pos c_130, ← tp_m (hO.2.2.1 i2 (by omega))]; done) | (rw [if_neg c_130]; done)) (rfl) xc107 (exc107) _ _ hI hS ls (lv_sub hl [2, 3, 4, 5, 1, 0] rfl)
              exact lp107 (_ + 1) (0) (Nat.zero_le _) (Nat.lt_succ_self _) 0 0 (rfl) (rfl) xc30 (exc30) _ _ hI hS ls (lv_sub hl [2, 3, 4, 5, 1, 0] rfl)
            · skip
              have c_70 := Int32.not_le.mp c_70
              refine lv_iload_n hx hb dX13_room_73 rfl (lv_at hl 2 rfl) ?_
              refine lv_if_ne (tgt := 81) hx hb dX13_room_74 (by decide) (fun c_74 => ?_) (fun c_74 => ?_)
              · skip
                refine lv_iload_n hx hb dX13_room_81 rfl (lv_at hl 2 rfl) ?_
                refine lv_iconst (v := 1) hx hb dX13_room_82 (by decide) ?_
                refine lv_icmp_ne (tgt := 94) hx hb dX13_room_83 (by decide) (fun c_83 => ?_) (fun c_83 => ?_)
                · skip
                  have hw2 : w = 2 := in3_b c_16 c_70 c_74 c_83
                  refine lv_aload_n hx hb dX13_room_94 rfl (lv_at hl 0 rfl) ?_
                  refine lv_iload_n hx hb dX13_room_95 rfl (lv_at hl 3 rfl) ?_
                  refine lv_iconst (v := 3) hx hb dX13_room_96 (by decide) ?_
                  refine c_r (k_V (As := [.int (itr (whS (x.1 0) r) 0 i), .int 3]) (rest := []) F (k_X13_known xc30 (hO_xc30) (itr (whS (x.1 0) r) 0 i) 3 (by omega)) (cwV 2 hts (lw_V q1268 q1270 qs52 q107 q1271) rfl rfl rfl (by decide +kernel) ⟨Nat.le_of_ble_eq_true rfl, Nat.le_of_ble_eq_true rfl⟩) hI hK (hw.recv hI hK (mf_main) rfl) rfl hl.1 rfl (Nat.le_of_ble_eq_true rfl) dX13_room_97 ⟨Nat.le_of_ble_eq_true rfl, Nat.le_of_ble_eq_true rfl⟩) ?_
                  exact W.iret hx hb hr (fun t ht _ => ⟨rI (by first | (simp [a_room, aR, hwh, exc30, c_4, hw2]; done) | (simp [a_room, aR, hwh, exc30, c_4, c_74, c_83]; done) | (simp [a_room, aR, hwh, exc30, c_4, c_74]; done)), by rw [ht]; exact hw_eq hI (congrArg (cfM D L) (by rw [exc30]; first | (simp [a_room, aM, c_4, hw2, ys_self]; done) | (simp [a_room, aM, c_4, c_74, c_83, ys_self]; done) | (simp [a_room, aM, c_4, c_74, ys_self]; done))), hS.F ht⟩) hS.2.2 dX13_room_100
                · skip
                  refine lv_aload_n hx hb dX13_room_86 rfl (lv_at hl 0 rfl) ?_
                  refine lv_iload_n hx hb dX13_room_87 rfl (lv_at hl 1 rfl) ?_
                  refine c_r (k_V (As := [.int r]) (rest := []) F (k_X13_hushIn xc30 (hO_xc30) r) (cwV 1 hts (lw_V q1260 q1262 qs50 q107 q1263) rfl rfl rfl (by decide +kernel) ⟨Nat.le_of_ble_eq_true rfl, Nat.le_of_ble_eq_true rfl⟩) hI hK (hw.recv hI hK (mf_main) rfl) rfl hl.1 rfl (Nat.le_of_ble_eq_true rfl) dX13_room_88 ⟨Nat.le_of_ble_eq_true rfl, Nat.le_of_ble_eq_true rfl⟩) ?_
                  refine lv_goto (tgt := 100) hx hb dX13_room_91 (by decide) ?_
                  exact W.iret hx hb hr (fun t ht _ => ⟨rI (by first | (simp [a_room, aR, hwh, exc30, c_4, hw2]; done) | (simp [a_room, aR, hwh, exc30, c_4, c_74, c_83]; done) | (simp [a_room, aR, hwh, exc30, c_4, c_74]; done)), by rw [ht]; exact hw_eq hI (congrArg (cfM D L) (by rw [exc30]; first | (simp [a_room, aM, c_4, hw2, ys_self]; done) | (simp [a_room, aM, c_4, c_74, c_83, ys_self]; done) | (simp [a_room, aM, c_4, c_74, ys_self]; done))), hS.F ht⟩) hS.2.2 dX13_room_100
              · skip
                refine lv_iload_n hx hb dX13_room_77 rfl (lv_at hl 3 rfl) ?_
                refine lv_goto (tgt := 100) hx hb dX13_room_78 (by decide) ?_
                exact W.iret hx hb hr (fun t ht _ => ⟨rI (by first | (simp [a_room, aR, hwh, exc30, c_4, hw2]; done) | (simp [a_room, aR, hwh, exc30, c_4, c_74, c_83]; done) | (simp [a_room, aR, hwh, exc30, c_4, c_74]; done)), by rw [ht]; exact hw_eq hI (congrArg (cfM D L) (by rw [exc30]; first | (simp [a_room, aM, c_4, hw2, ys_self]; done) | (simp [a_room, aM, c_4, c_74, c_83, ys_self]; done) | (simp [a_room, aM, c_4, c_74, ys_self]; done))), hS.F ht⟩) hS.2.2 dX13_room_100
          · skip
            have c_38 : ¬ nn ≤ i := fun z => c_38 ((nle (a := nn) (b := i) (hq1) (rfl) (by omega) (by omega)).mpr z)
            refine lv_iload_n hx hb dX13_room_41 rfl (lv_at hl 3 rfl) ?_
            refine lv_aload_n hx hb dX13_room_42 rfl (lv_at hl 0 rfl) ?_
            refine lv_iload hx hb dX13_room_43 (lv_at hl 4 rfl) ?_
            refine lv_iload_n hx hb dX13_room_45 rfl (lv_at hl 1 rfl) ?_
            refine c_r (k_V (As := [.int (nI i), .int r]) (rest := [.int (itr (whS (x.1 0) r) 0 i)]) F (k_X13_isIn xc30 i r (by omega)) (cwV 2 hts (lw_V q1252 q1254 qs48 q107 q1255) rfl rfl rfl (by decide +kernel) ⟨Nat.le_of_ble_eq_true rfl, Nat.le_of_ble_eq_true rfl⟩) hI hK (hw.recv hI hK (mf_main) rfl) rfl hl.1 rfl (Nat.le_of_ble_eq_true rfl) dX13_room_46 ⟨Nat.le_of_ble_eq_true rfl, Nat.le_of_ble_eq_true rfl⟩) ?_
            refine lv_if_eq (tgt := 59) hx hb dX13_room_49 (by decide) (fun c_49 => ?_) (fun c_49 => ?_)
            · skip
              refine lv_iconst (v := 0) hx hb dX13_room_59 (by decide) ?_
              refine lv_ior hx hb dX13_room_60 ?_
              refine lv_istore_n (lv' := [(3, .int ((itr (whS (x.1 0) r) 0 i) ||| (0 : Int32))), (0, .ref (L 0)), (1, .int r), (2, .int w), (4, .int (nI i))]) hx hb dX13_room_61 rfl hl (by decide) rfl (fun ls hl => ?_)
              refine lv_iinc (v := (nI (i + 1))) (lv' := [(4, .int (nI (i + 1))), (3, .int ((itr (whS (x.1 0) r) 0 i) ||| (0 : Int32))), (0, .ref (L 0)), (1, .int r), (2, .int w)]) hx hb dX13_room_62 hl (k := 4) rfl (nI_1 _) (by decide) rfl (fun ls hl => ?_)
              refine lv_goto (tgt := 30) hx hb dX13_room_65 (by decide) ?_
              exact ih30 (i + 1) (by omega) (by omega) ((itr (whS (x.1 0) r) 0 i) ||| (0 : Int32)) (nI (i + 1)) (by rw [itr_s, whS_isi]; rw [exc30] at c_49; simp [b1, c_4, c_16, c_38, c_49]) (rfl) xc30 (exc30) _ _ hI hS ls (lv_sub hl [2, 3, 4, 1, 0] rfl)
            · skip
              refine lv_iconst (v := 1) hx hb dX13_room_52 (by decide) ?_
              refine lv_iload hx hb dX13_room_53 (lv_at hl 4 rfl) ?_
              refine lv_ishl hx hb dX13_room_55 ?_
              refine lv_goto (tgt := 60) hx hb dX13_room_56 (by decide) ?_
              refine lv_ior hx hb dX13_room_60 ?_
              refine lv_istore_n (lv' := [(3, .int ((itr (whS (x.1 0) r) 0 i) ||| ((1 : Int32) <<< ((nI i) &&& 31)))), (0, .ref (L 0)), (1, .int r), (2, .int w), (4, .int (nI i))]) hx hb dX13_room_61 rfl hl (by decide) rfl (fun ls hl => ?_)
              refine lv_iinc (v := (nI (i + 1))) (lv' := [(4, .int (nI (i + 1))), (3, .int ((itr (whS (x.1 0) r) 0 i) ||| ((1 : Int32) <<< ((nI i) &&& 31)))), (0, .ref (L 0)), (1, .int r), (2, .int w)]) hx hb dX13_room_62 hl (k := 4) rfl (nI_1 _) (by decide) rfl (fun ls hl => ?_)
              refine lv_goto (tgt := 30) hx hb dX13_room_65 (by decide) ?_
              exact ih30 (i + 1) (by omega) (by omega) ((itr (whS (x.1 0) r) 0 i) ||| ((1 : Int32) <<< ((nI i) &&& 31))) (nI (i + 1)) (by rw [itr_s, whS_isi]; rw [exc30] at c_49; simp [b1, c_4, c_16, c_38, c_49]) (rfl) xc30 (exc30) _ _ hI hS ls (lv_sub hl [2, 3, 4, 1, 0] rfl)
      exact lp30 (_ + 1) (0) (Nat.zero_le _) (Nat.lt_succ_self _) 0 0 (rfl) (rfl) x (rfl) _ _ hI hS ls (lv_sub hl [2, 3, 4, 1, 0] rfl)
    · skip
      refine lv_aload_n hx hb dX13_room_19 rfl (lv_at hl 0 rfl) ?_
      refine lv_iconst (v := 0) hx hb dX13_room_20 (by decide) ?_
      refine c_m (k_V (As := [.int 0]) (rest := []) F (k_X13_finds x 0 (by decide)) (cwV 1 hts (lw_V q1238 q1240 qs47 q107 q1241) rfl rfl rfl (by decide +kernel) ⟨Nat.le_of_ble_eq_true rfl, Nat.le_of_ble_eq_true rfl⟩) hI hK (hw.recv hI hK (mf_main) rfl) rfl hl.1 rfl (Nat.le_of_ble_eq_true rfl) dX13_room_21 ⟨Nat.le_of_ble_eq_true rfl, Nat.le_of_ble_eq_true rfl⟩) hS (fun H1 locs1 hI hS => ?_)
      obtain ⟨x2, ex2⟩ : ∃ z, z = (fndM x 0) := ⟨_, rfl⟩
      rw [← ex2] at hI
      exact W.iret hx hb hr (fun t ht _ => ⟨rI (by first | (simp [a_room, aR, c_4, c_16]; done) | (rw [a_room_out c_16]; rfl)), by rw [ht]; exact hw_eq hI (congrArg (cfM D L) (by first | (rw [ex2]; simp [a_room, aM, c_4, c_16]; done) | (rw [ex2, a_room_out c_16]; rfl))), hS.F ht⟩) hS.2.2 dX13_room_24
theorem k_X13_glove {l : Launch} {D : va_G} {L : Nat → Nat} {A : Nat → Prop} (x : mst) (hO : wOk (x.1 0)) (k r : Int32) : Met l yX13_glove (ws_ yX13_glove cX13_glove 3 (some .int)) ({ frames := 2, cells := 0, slots := 0, locals := 47 } : Room) (va_Pc [.ref (L 0), .int k, .int r] (pI D (cfM D L x) A)) (nQ D (cfM D L (aM x (a_glove (x.1 0) k r))) A (some (.int (aR (a_glove (x.1 0) k r))))) 0 0 A := by
  refine met_I (by decide) rfl (Nat.le_of_ble_eq_true rfl) ?_
  intro p e s m below meth c ls hx hb hr hml hown hts hlocks hl hI hK
  have F : CallFix p m c cX13_glove 3 s _ lw_all RX13 := ⟨hx, hb, hml, hown, hts⟩
  have hl : lv_has ls 3 [(0, .ref (L 0)), (1, .int k), (2, .int r)] := hl
  have hS : va_S A s.heap s.heap [] := va_S.rf
  obtain ⟨nn, hn, h8⟩ : ∃ n, x.1 0 1 0 = nI n ∧ n ≤ 8 := ⟨_, hO.n⟩
  have hN : wN (x.1 0) = nn := by unfold wN; rw [hn, nI_clamp (by omega)]
  refine lv_iload_n hx hb dX13_glove_0 rfl (lv_at hl 1 rfl) ?_
  refine lv_i2l (v := (k : Int32).toInt64) hx hb dX13_glove_1 rfl ?_
  refine lv_lconst (v := 0) hx hb dX13_glove_2 (by decide) ?_
  refine lv_ldc2 (v := 6) hx hb hown (hts _ q1276) dX13_glove_3 ?_
  refine c_r (k_S (As := [.long ((k : Int32).toInt64), .long 0, .long 6]) (rest := []) F (k_X13_in k 0 6 ((k : Int32).toInt64 : Int64) (0 : Int64) (6 : Int64) rfl (by decide) (by decide)) (va_cwS 3 hts (lw_S q1227 q1228 q107 q1229) rfl rfl rfl (by decide +kernel) ⟨Nat.le_of_ble_eq_true rfl, Nat.le_of_ble_eq_true rfl⟩) rfl hl.1 rfl (Nat.le_of_ble_eq_true rfl) dX13_glove_6 ⟨Nat.le_of_ble_eq_true rfl, Nat.le_of_ble_eq_true rfl⟩) ?_
  refine lv_if_eq (tgt := 19) hx hb dX13_glove_9 (by decide) (fun c_9 => ?_) (fun c_9 => ?_)
  · skip
    refine lv_aload_n hx hb dX13_glove_19 rfl (lv_at hl 0 rfl) ?_
    refine lv_iconst (v := 0) hx hb dX13_glove_20 (by decide) ?_
    refine c_m (k_V (As := [.int 0]) (rest := []) F (k_X13_finds x 0 (by decide)) (cwV 1 hts (lw_V q1238 q1240 qs47 q107 q1241) rfl rfl rfl (by decide +kernel) ⟨Nat.le_of_ble_eq_true rfl, Nat.le_of_ble_eq_true rfl⟩) hI hK (hw.recv hI hK (mf_main) rfl) rfl hl.1 rfl (Nat.le_of_ble_eq_true rfl) dX13_glove_21 ⟨Nat.le_of_ble_eq_true rfl, Nat.le_of_ble_eq_true rfl⟩) hS (fun H1 locs1 hI hS => ?_)
    obtain ⟨x1, ex1⟩ : ∃ z, z = (fndM x 0) := ⟨_, rfl⟩
    rw [← ex1] at hI
    exact W.iret hx hb hr (fun t ht _ => ⟨rI (by first | (simp only [a_glove, aR, if_pos c_9]; done) | (simp [a_glove, aR, c_9]; done)), by rw [ht]; exact hw_eq hI (congrArg (cfM D L) (by first | (rw [ex1]; simp only [a_glove, aM, if_pos c_9]; done) | (simp only [a_glove, aM, ys_self, if_pos c_9]; done) | (rw [ex1]; simp [a_glove, aM, c_9]; done) | (simp [a_glove, aM, c_9, ys_self]; done))), hS.F ht⟩) hS.2.2 dX13_glove_24
  · skip
    refine lv_iload_n hx hb dX13_glove_12 rfl (lv_at hl 2 rfl) ?_
    refine c_r (k_S (As := [.int r]) (rest := []) F (k_X13_isPlace r) (va_cwS 1 hts (lw_S q1223 q1224 q107 q1225) rfl rfl rfl (by decide +kernel) ⟨Nat.le_of_ble_eq_true rfl, Nat.le_of_ble_eq_true rfl⟩) rfl hl.1 rfl (Nat.le_of_ble_eq_true rfl) dX13_glove_13 ⟨Nat.le_of_ble_eq_true rfl, Nat.le_of_ble_eq_true rfl⟩) ?_
    refine lv_if_ne (tgt := 25) hx hb dX13_glove_16 (by decide) (fun c_16 => ?_) (fun c_16 => ?_)
    · skip
      refine lv_aload_n hx hb dX13_glove_25 rfl (lv_at hl 0 rfl) ?_
      refine r_get (C := RX13) (T := TX13) (N := 18) hx hb hts in_X13 hown hK hI (mf_main) rfl 0 (by decide) (hts _ q1164) (fun _ h => h) rfl dX13_glove_26 ?_
      refine lv_iconst (v := 0) hx hb dX13_glove_29 (by decide) ?_
      refine n_ialdv (k := 0) (v := (x.1 0 1 0)) hx hb hK hI (mf_d) (rfl) (by decide) (by decide) (rfl) dX13_glove_30 ?_
      refine lv_bipush (v := 8) hx hb dX13_glove_31 (by decide) ?_
      refine lv_icmp_ne (tgt := 44) hx hb dX13_glove_33 (by decide) (fun c_33 => ?_) (fun c_33 => ?_)
      · skip
        have h7 : wN (x.1 0) < 8 := by rw [hN]; exact Nat.lt_of_le_of_ne h8 (fun q => c_33 (by rw [hn, q]; rfl))
        refine lv_aload_n hx hb dX13_glove_44 rfl (lv_at hl 0 rfl) ?_
        refine lv_iload_n hx hb dX13_glove_45 rfl (lv_at hl 1 rfl) ?_
        refine lv_iload_n hx hb dX13_glove_46 rfl (lv_at hl 2 rfl) ?_
        refine c_m (k_V (As := [.int k, .int r]) (rest := []) F (k_X13_comes x (hO) k r (h7)) (cwV 2 hts (lw_V q1277 q1279 qs53 q107 q1280) rfl rfl rfl (by decide +kernel) ⟨Nat.le_of_ble_eq_true rfl, Nat.le_of_ble_eq_true rfl⟩) hI hK (hw.recv hI hK (mf_main) rfl) rfl hl.1 rfl (Nat.le_of_ble_eq_true rfl) dX13_glove_47 ⟨Nat.le_of_ble_eq_true rfl, Nat.le_of_ble_eq_true rfl⟩) hS (fun H1 locs1 hI hS => ?_)
        obtain ⟨x2, ex2⟩ : ∃ z, z = ys x 0 (addw (x.1 0) k r) := ⟨_, rfl⟩
        rw [← ex2] at hI
        exact W.iret hx hb hr (fun t ht _ => ⟨rI (by first | (simp only [a_glove, aR, if_neg c_9, if_neg c_16, if_neg c_33]; done) | (simp [a_glove, aR, c_9, c_16, c_33]; done)), by rw [ht]; exact hw_eq hI (congrArg (cfM D L) (by first | (rw [ex2]; simp only [a_glove, aM, if_neg c_9, if_neg c_16, if_neg c_33]; done) | (simp only [a_glove, aM, ys_self, if_neg c_9, if_neg c_16, if_neg c_33]; done) | (rw [ex2]; simp [a_glove, aM, c_9, c_16, c_33]; done) | (simp [a_glove, aM, c_9, c_16, c_33, ys_self]; done))), hS.F ht⟩) hS.2.2 dX13_glove_50
      · skip
        refine lv_aload_n hx hb dX13_glove_36 rfl (lv_at hl 0 rfl) ?_
        refine lv_iconst (v := 1) hx hb dX13_glove_37 (by decide) ?_
        refine c_m (k_V (As := [.int 1]) (rest := []) F (k_X13_finds x 1 (by decide)) (cwV 1 hts (lw_V q1238 q1240 qs47 q107 q1241) rfl rfl rfl (by decide +kernel) ⟨Nat.le_of_ble_eq_true rfl, Nat.le_of_ble_eq_true rfl⟩) hI hK (hw.recv hI hK (mf_main) rfl) rfl hl.1 rfl (Nat.le_of_ble_eq_true rfl) dX13_glove_38 ⟨Nat.le_of_ble_eq_true rfl, Nat.le_of_ble_eq_true rfl⟩) hS (fun H1 locs1 hI hS => ?_)
        obtain ⟨x3, ex3⟩ : ∃ z, z = (fndM x 1) := ⟨_, rfl⟩
        rw [← ex3] at hI
        refine lv_goto (tgt := 50) hx hb dX13_glove_41 (by decide) ?_
        exact W.iret hx hb hr (fun t ht _ => ⟨rI (by first | (simp only [a_glove, aR, if_neg c_9, if_neg c_16, if_pos c_33]; done) | (simp [a_glove, aR, c_9, c_16, c_33]; done)), by rw [ht]; exact hw_eq hI (congrArg (cfM D L) (by first | (rw [ex3]; simp only [a_glove, aM, if_neg c_9, if_neg c_16, if_pos c_33]; done) | (simp only [a_glove, aM, ys_self, if_neg c_9, if_neg c_16, if_pos c_33]; done) | (rw [ex3]; simp [a_glove, aM, c_9, c_16, c_33]; done) | (simp [a_glove, aM, c_9, c_16, c_33, ys_self]; done))), hS.F ht⟩) hS.2.2 dX13_glove_50
    · skip
      refine lv_aload_n hx hb dX13_glove_19 rfl (lv_at hl 0 rfl) ?_
      refine lv_iconst (v := 0) hx hb dX13_glove_20 (by decide) ?_
      refine c_m (k_V (As := [.int 0]) (rest := []) F (k_X13_finds x 0 (by decide)) (cwV 1 hts (lw_V q1238 q1240 qs47 q107 q1241) rfl rfl rfl (by decide +kernel) ⟨Nat.le_of_ble_eq_true rfl, Nat.le_of_ble_eq_true rfl⟩) hI hK (hw.recv hI hK (mf_main) rfl) rfl hl.1 rfl (Nat.le_of_ble_eq_true rfl) dX13_glove_21 ⟨Nat.le_of_ble_eq_true rfl, Nat.le_of_ble_eq_true rfl⟩) hS (fun H1 locs1 hI hS => ?_)
      obtain ⟨x4, ex4⟩ : ∃ z, z = (fndM x 0) := ⟨_, rfl⟩
      rw [← ex4] at hI
      exact W.iret hx hb hr (fun t ht _ => ⟨rI (by first | (simp only [a_glove, aR, if_neg c_9, if_pos c_16]; done) | (simp [a_glove, aR, c_9, c_16]; done)), by rw [ht]; exact hw_eq hI (congrArg (cfM D L) (by first | (rw [ex4]; simp only [a_glove, aM, if_neg c_9, if_pos c_16]; done) | (simp only [a_glove, aM, ys_self, if_neg c_9, if_pos c_16]; done) | (rw [ex4]; simp [a_glove, aM, c_9, c_16]; done) | (simp [a_glove, aM, c_9, c_16, ys_self]; done))), hS.F ht⟩) hS.2.2 dX13_glove_24
theorem k_X13_of {l : Launch} {D : va_G} {L : Nat → Nat} {A : Nat → Prop} (x : mst) (hO : wOk (x.1 0)) (g w : Int32) : Met l yX13_of (ws_ yX13_of cX13_of 3 (some .int)) ({ frames := 4, cells := 0, slots := 0, locals := 89 } : Room) (va_Pc [.ref (L 0), .int g, .int w] (pI D (cfM D L x) A)) (nQ D (cfM D L (aM x (a_of (x.1 0) g w))) A (some (.int (aR (a_of (x.1 0) g w))))) 0 0 A := by
  refine met_I (by decide) rfl (Nat.le_of_ble_eq_true rfl) ?_
  intro p e s m below meth c ls hx hb hr hml hown hts hlocks hl hI hK
  have F : CallFix p m c cX13_of 3 s _ lw_all RX13 := ⟨hx, hb, hml, hown, hts⟩
  have hl : lv_has ls 3 [(0, .ref (L 0)), (1, .int g), (2, .int w)] := hl
  have hS : va_S A s.heap s.heap [] := va_S.rf
  obtain ⟨nn, hn, h8⟩ : ∃ n, x.1 0 1 0 = nI n ∧ n ≤ 8 := ⟨_, hO.n⟩
  have hN : wN (x.1 0) = nn := by unfold wN; rw [hn, nI_clamp (by omega)]
  refine lv_aload_n hx hb dX13_of_0 rfl (lv_at hl 0 rfl) ?_
  refine lv_iload_n hx hb dX13_of_1 rfl (lv_at hl 1 rfl) ?_
  refine c_r (k_V (As := [.int g]) (rest := []) F (k_X13_isGlove x g) (cwV 1 hts (lw_V q1289 q1291 qs55 q107 q1292) rfl rfl rfl (by decide +kernel) ⟨Nat.le_of_ble_eq_true rfl, Nat.le_of_ble_eq_true rfl⟩) hI hK (hw.recv hI hK (mf_main) rfl) rfl hl.1 rfl (Nat.le_of_ble_eq_true rfl) dX13_of_2 ⟨Nat.le_of_ble_eq_true rfl, Nat.le_of_ble_eq_true rfl⟩) ?_
  refine lv_if_eq (tgt := 20) hx hb dX13_of_5 (by decide) (fun c_5 => ?_) (fun c_5 => ?_)
  · skip
    refine lv_aload_n hx hb dX13_of_20 rfl (lv_at hl 0 rfl) ?_
    refine lv_iconst (v := 0) hx hb dX13_of_21 (by decide) ?_
    refine c_m (k_V (As := [.int 0]) (rest := []) F (k_X13_finds x 0 (by decide)) (cwV 1 hts (lw_V q1238 q1240 qs47 q107 q1241) rfl rfl rfl (by decide +kernel) ⟨Nat.le_of_ble_eq_true rfl, Nat.le_of_ble_eq_true rfl⟩) hI hK (hw.recv hI hK (mf_main) rfl) rfl hl.1 rfl (Nat.le_of_ble_eq_true rfl) dX13_of_22 ⟨Nat.le_of_ble_eq_true rfl, Nat.le_of_ble_eq_true rfl⟩) hS (fun H1 locs1 hI hS => ?_)
    obtain ⟨x1, ex1⟩ : ∃ z, z = (fndM x 0) := ⟨_, rfl⟩
    rw [← ex1] at hI
    exact W.iret hx hb hr (fun t ht _ => ⟨rI (by first | (simp [a_of, aR, c_5]; done) | rw [a_of_out c_17]; rfl), by rw [ht]; exact hw_eq hI (congrArg (cfM D L) (by first | (rw [ex1]; simp [a_of, aM, c_5]; done) | (rw [ex1, a_of_out c_17]; rfl))), hS.F ht⟩) hS.2.2 dX13_of_25
  · skip
    refine lv_iload_n hx hb dX13_of_8 rfl (lv_at hl 2 rfl) ?_
    refine lv_i2l (v := (w : Int32).toInt64) hx hb dX13_of_9 rfl ?_
    refine lv_lconst (v := 0) hx hb dX13_of_10 (by decide) ?_
    refine lv_ldc2 (v := 10) hx hb hown (hts _ q1293) dX13_of_11 ?_
    refine c_r (k_S (As := [.long ((w : Int32).toInt64), .long 0, .long 10]) (rest := []) F (k_X13_in w 0 10 ((w : Int32).toInt64 : Int64) (0 : Int64) (10 : Int64) rfl (by decide) (by decide)) (va_cwS 3 hts (lw_S q1227 q1228 q107 q1229) rfl rfl rfl (by decide +kernel) ⟨Nat.le_of_ble_eq_true rfl, Nat.le_of_ble_eq_true rfl⟩) rfl hl.1 rfl (Nat.le_of_ble_eq_true rfl) dX13_of_14 ⟨Nat.le_of_ble_eq_true rfl, Nat.le_of_ble_eq_true rfl⟩) ?_
    refine lv_if_ne (tgt := 26) hx hb dX13_of_17 (by decide) (fun c_17 => ?_) (fun c_17 => ?_)
    · skip
      obtain ⟨k, hk, eg⟩ := isGl_to hn h8 c_5
      have eg2 : g.toNatClampNeg = k := by rw [eg, nI_clamp (by omega)]
      obtain ⟨q, hq, ew⟩ := inI_to (b := 10) rfl (by decide) c_17
      have ew2 : w.toNatClampNeg = q := by rw [ew, nI_clamp (by omega)]
      subst eg
      subst ew
      refine lv_iload_n hx hb dX13_of_26 rfl (lv_at hl 2 rfl) ?_
      by_cases c_27_7 : nI q = 7
      · skip
        refine lv_tableIn (off := 29) (tgt := 56) hx hb dX13_of_27 (by rw [c_27_7]; decide) (by rw [c_27_7]; decide) (by rw [c_27_7]; rfl) (by decide) ?_
        refine lv_aload_n hx hb dX13_of_56 rfl (lv_at hl 0 rfl) ?_
        refine lv_iload_n hx hb dX13_of_57 rfl (lv_at hl 1 rfl) ?_
        refine c_r (k_V (As := [.int (nI k)]) (rest := []) F (k_X13_needs x (hO) k (by omega)) (cwV 1 hts (lw_V q1294 q1296 qs56 q107 q1297) rfl rfl rfl (by decide +kernel) ⟨Nat.le_of_ble_eq_true rfl, Nat.le_of_ble_eq_true rfl⟩) hI hK (hw.recv hI hK (mf_main) rfl) rfl hl.1 rfl (Nat.le_of_ble_eq_true rfl) dX13_of_58 ⟨Nat.le_of_ble_eq_true rfl, Nat.le_of_ble_eq_true rfl⟩) ?_
        exact W.iret hx hb hr (fun t ht _ => ⟨rI (by rw [a_of_v c_27_7 c_5, eg2]; rfl), by rw [ht]; exact hw_eq hI (congrArg (cfM D L) (by rw [a_of_v c_27_7 c_5]; exact (ys_self _ _).symm)), hS.F ht⟩) hS.2.2 dX13_of_61
      by_cases c_27_8 : nI q = 8
      · skip
        refine lv_tableIn (off := 35) (tgt := 62) hx hb dX13_of_27 (by rw [c_27_8]; decide) (by rw [c_27_8]; decide) (by rw [c_27_8]; rfl) (by decide) ?_
        refine lv_aload_n hx hb dX13_of_62 rfl (lv_at hl 0 rfl) ?_
        refine lv_iload_n hx hb dX13_of_63 rfl (lv_at hl 1 rfl) ?_
        refine c_r (k_V (As := [.int (nI k)]) (rest := []) F (k_X13_hushes x k (kN (x.1 0) k) (by omega) (hO.k (k := k) (by omega)).2 ((hO.k (k := k) (by omega)).1)) (cwV 1 hts (lw_V q1264 q1266 qs51 q107 q1267) rfl rfl rfl (by decide +kernel) ⟨Nat.le_of_ble_eq_true rfl, Nat.le_of_ble_eq_true rfl⟩) hI hK (hw.recv hI hK (mf_main) rfl) rfl hl.1 rfl (Nat.le_of_ble_eq_true rfl) dX13_of_64 ⟨Nat.le_of_ble_eq_true rfl, Nat.le_of_ble_eq_true rfl⟩) ?_
        exact W.iret hx hb hr (fun t ht _ => ⟨rI (by rw [a_of_v c_27_8 c_5, eg2]; rfl), by rw [ht]; exact hw_eq hI (congrArg (cfM D L) (by rw [a_of_v c_27_8 c_5]; exact (ys_self _ _).symm)), hS.F ht⟩) hS.2.2 dX13_of_67
      by_cases c_27_9 : nI q = 9
      · skip
        refine lv_tableIn (off := 41) (tgt := 68) hx hb dX13_of_27 (by rw [c_27_9]; decide) (by rw [c_27_9]; decide) (by rw [c_27_9]; rfl) (by decide) ?_
        refine lv_aload_n hx hb dX13_of_68 rfl (lv_at hl 0 rfl) ?_
        refine lv_iload_n hx hb dX13_of_69 rfl (lv_at hl 1 rfl) ?_
        refine c_r (k_V (As := [.int (nI k)]) (rest := []) F (k_X13_stays x k (kN (x.1 0) k) (by omega) (hO.k (k := k) (by omega)).2 ((hO.k (k := k) (by omega)).1)) (cwV 1 hts (lw_V q1305 q1307 qs58 q107 q1308) rfl rfl rfl (by decide +kernel) ⟨Nat.le_of_ble_eq_true rfl, Nat.le_of_ble_eq_true rfl⟩) hI hK (hw.recv hI hK (mf_main) rfl) rfl hl.1 rfl (Nat.le_of_ble_eq_true rfl) dX13_of_70 ⟨Nat.le_of_ble_eq_true rfl, Nat.le_of_ble_eq_true rfl⟩) ?_
        exact W.iret hx hb hr (fun t ht _ => ⟨rI (by rw [a_of_v c_27_9 c_5, eg2]; rfl), by rw [ht]; exact hw_eq hI (congrArg (cfM D L) (by rw [a_of_v c_27_9 c_5]; exact (ys_self _ _).symm)), hS.F ht⟩) hS.2.2 dX13_of_73
      by_cases c_27_10 : nI q = 10
      · skip
        refine lv_tableIn (off := 47) (tgt := 74) hx hb dX13_of_27 (by rw [c_27_10]; decide) (by rw [c_27_10]; decide) (by rw [c_27_10]; rfl) (by decide) ?_
        refine lv_aload_n hx hb dX13_of_74 rfl (lv_at hl 0 rfl) ?_
        refine lv_iload_n hx hb dX13_of_75 rfl (lv_at hl 1 rfl) ?_
        refine c_r (k_V (As := [.int (nI k)]) (rest := []) F (k_X13_keeps x k (kN (x.1 0) k) (by omega) (hO.k (k := k) (by omega)).2 ((hO.k (k := k) (by omega)).1)) (cwV 1 hts (lw_V q1309 q1311 qs59 q107 q1312) rfl rfl rfl (by decide +kernel) ⟨Nat.le_of_ble_eq_true rfl, Nat.le_of_ble_eq_true rfl⟩) hI hK (hw.recv hI hK (mf_main) rfl) rfl hl.1 rfl (Nat.le_of_ble_eq_true rfl) dX13_of_76 ⟨Nat.le_of_ble_eq_true rfl, Nat.le_of_ble_eq_true rfl⟩) ?_
        exact W.iret hx hb hr (fun t ht _ => ⟨rI (by rw [a_of_v c_27_10 c_5, eg2]; rfl), by rw [ht]; exact hw_eq hI (congrArg (cfM D L) (by rw [a_of_v c_27_10 c_5]; exact (ys_self _ _).symm)), hS.F ht⟩) hS.2.2 dX13_of_79
      refine lv_tableOut (tgt := 80) hx hb dX13_of_27 (by have n0 := lv_neT c_27_7 (a := 7) (by decide); have n1 := lv_neT c_27_8 (a := 8) (by decide); have n2 := lv_neT c_27_9 (a := 9) (by decide); have n3 := lv_neT c_27_10 (a := 10) (by decide); omega) (by decide) ?_
      have hq6 : q ≤ 6 := by have a7 : q ≠ 7 := fun z => c_27_7 (by rw [z]; rfl); have a8 : q ≠ 8 := fun z => c_27_8 (by rw [z]; rfl); have a9 : q ≠ 9 := fun z => c_27_9 (by rw [z]; rfl); have a10 : q ≠ 10 := fun z => c_27_10 (by rw [z]; rfl); omega
      refine lv_aload_n hx hb dX13_of_80 rfl (lv_at hl 0 rfl) ?_
      refine lv_iload_n hx hb dX13_of_81 rfl (lv_at hl 1 rfl) ?_
      refine lv_iload_n hx hb dX13_of_82 rfl (lv_at hl 2 rfl) ?_
      refine c_r (k_V (As := [.int (nI k), .int (nI q)]) (rest := []) F (k_X13_its x (nI k) (nI q) k q (by omega) (by omega) rfl rfl) (cwV 2 hts (lw_V q1256 q1258 qs49 q107 q1259) rfl rfl rfl (by decide +kernel) ⟨Nat.le_of_ble_eq_true rfl, Nat.le_of_ble_eq_true rfl⟩) hI hK (hw.recv hI hK (mf_main) rfl) rfl hl.1 rfl (Nat.le_of_ble_eq_true rfl) dX13_of_83 ⟨Nat.le_of_ble_eq_true rfl, Nat.le_of_ble_eq_true rfl⟩) ?_
      exact W.iret hx hb hr (fun t ht _ => ⟨rI (by rw [a_of_lt hO hq6 c_5 eg2 (by omega)]; rfl), by rw [ht]; exact hw_eq hI (congrArg (cfM D L) (by rw [a_of_lt hO hq6 c_5 eg2 (by omega)]; exact (ys_self _ _).symm)), hS.F ht⟩) hS.2.2 dX13_of_86
    · skip
      refine lv_aload_n hx hb dX13_of_20 rfl (lv_at hl 0 rfl) ?_
      refine lv_iconst (v := 0) hx hb dX13_of_21 (by decide) ?_
      refine c_m (k_V (As := [.int 0]) (rest := []) F (k_X13_finds x 0 (by decide)) (cwV 1 hts (lw_V q1238 q1240 qs47 q107 q1241) rfl rfl rfl (by decide +kernel) ⟨Nat.le_of_ble_eq_true rfl, Nat.le_of_ble_eq_true rfl⟩) hI hK (hw.recv hI hK (mf_main) rfl) rfl hl.1 rfl (Nat.le_of_ble_eq_true rfl) dX13_of_22 ⟨Nat.le_of_ble_eq_true rfl, Nat.le_of_ble_eq_true rfl⟩) hS (fun H1 locs1 hI hS => ?_)
      obtain ⟨x2, ex2⟩ : ∃ z, z = (fndM x 0) := ⟨_, rfl⟩
      rw [← ex2] at hI
      exact W.iret hx hb hr (fun t ht _ => ⟨rI (by first | (simp [a_of, aR, c_5, c_17]; done) | rw [a_of_out c_17]; rfl), by rw [ht]; exact hw_eq hI (congrArg (cfM D L) (by first | (rw [ex2]; simp [a_of, aM, c_5, c_17]; done) | (rw [ex2, a_of_out c_17]; rfl))), hS.F ht⟩) hS.2.2 dX13_of_25
theorem k_X13_change {l : Launch} {D : va_G} {L : Nat → Nat} {A : Nat → Prop} (x : mst) (hO : wOk (x.1 0)) (g w v : Int32) : Met l yX13_change (ws_ yX13_change cX13_change 4 (some .int)) ({ frames := 2, cells := 0, slots := 0, locals := 46 } : Room) (va_Pc [.ref (L 0), .int g, .int w, .int v] (pI D (cfM D L x) A)) (nQ D (cfM D L (aM x (a_change (x.1 0) g w v))) A (some (.int (aR (a_change (x.1 0) g w v))))) 0 0 A := by
  refine met_I (by decide) rfl (Nat.le_of_ble_eq_true rfl) ?_
  intro p e s m below meth c ls hx hb hr hml hown hts hlocks hl hI hK
  have F : CallFix p m c cX13_change 4 s _ lw_all RX13 := ⟨hx, hb, hml, hown, hts⟩
  have hl : lv_has ls 4 [(0, .ref (L 0)), (1, .int g), (2, .int w), (3, .int v)] := hl
  have hS : va_S A s.heap s.heap [] := va_S.rf
  obtain ⟨nn, hn, h8⟩ : ∃ n, x.1 0 1 0 = nI n ∧ n ≤ 8 := ⟨_, hO.n⟩
  have hN : wN (x.1 0) = nn := by unfold wN; rw [hn, nI_clamp (by omega)]
  refine lv_aload_n hx hb dX13_change_0 rfl (lv_at hl 0 rfl) ?_
  refine lv_iload_n hx hb dX13_change_1 rfl (lv_at hl 1 rfl) ?_
  refine c_r (k_V (As := [.int g]) (rest := []) F (k_X13_isGlove x g) (cwV 1 hts (lw_V q1289 q1291 qs55 q107 q1292) rfl rfl rfl (by decide +kernel) ⟨Nat.le_of_ble_eq_true rfl, Nat.le_of_ble_eq_true rfl⟩) hI hK (hw.recv hI hK (mf_main) rfl) rfl hl.1 rfl (Nat.le_of_ble_eq_true rfl) dX13_change_2 ⟨Nat.le_of_ble_eq_true rfl, Nat.le_of_ble_eq_true rfl⟩) ?_
  refine lv_if_eq (tgt := 51) hx hb dX13_change_5 (by decide) (fun c_5 => ?_) (fun c_5 => ?_)
  · skip
    refine lv_aload_n hx hb dX13_change_51 rfl (lv_at hl 0 rfl) ?_
    refine lv_iconst (v := 0) hx hb dX13_change_52 (by decide) ?_
    refine c_m (k_V (As := [.int 0]) (rest := []) F (k_X13_finds x 0 (by decide)) (cwV 1 hts (lw_V q1238 q1240 qs47 q107 q1241) rfl rfl rfl (by decide +kernel) ⟨Nat.le_of_ble_eq_true rfl, Nat.le_of_ble_eq_true rfl⟩) hI hK (hw.recv hI hK (mf_main) rfl) rfl hl.1 rfl (Nat.le_of_ble_eq_true rfl) dX13_change_53 ⟨Nat.le_of_ble_eq_true rfl, Nat.le_of_ble_eq_true rfl⟩) hS (fun H1 locs1 hI hS => ?_)
    obtain ⟨x1, ex1⟩ : ∃ z, z = (fndM x 0) := ⟨_, rfl⟩
    rw [← ex1] at hI
    exact W.iret hx hb hr (fun t ht _ => ⟨rI (by first | (simp [a_change, aR, tld_m, c_5]; done) | (simp [a_change, aR, c_5]; done)), by rw [ht]; exact hw_eq hI (congrArg (cfM D L) (by first | (rw [ex1]; simp [a_change, aM, tld_m, c_5]; done) | (rw [ex1]; simp [a_change, aM, c_5]; done))), hS.F ht⟩) hS.2.2 dX13_change_56
  · skip
    refine lv_iload_n hx hb dX13_change_8 rfl (lv_at hl 2 rfl) ?_
    refine lv_i2l (v := (w : Int32).toInt64) hx hb dX13_change_9 rfl ?_
    refine lv_lconst (v := 0) hx hb dX13_change_10 (by decide) ?_
    refine lv_ldc2 (v := 6) hx hb hown (hts _ q1276) dX13_change_11 ?_
    refine c_r (k_S (As := [.long ((w : Int32).toInt64), .long 0, .long 6]) (rest := []) F (k_X13_in w 0 6 ((w : Int32).toInt64 : Int64) (0 : Int64) (6 : Int64) rfl (by decide) (by decide)) (va_cwS 3 hts (lw_S q1227 q1228 q107 q1229) rfl rfl rfl (by decide +kernel) ⟨Nat.le_of_ble_eq_true rfl, Nat.le_of_ble_eq_true rfl⟩) rfl hl.1 rfl (Nat.le_of_ble_eq_true rfl) dX13_change_14 ⟨Nat.le_of_ble_eq_true rfl, Nat.le_of_ble_eq_true rfl⟩) ?_
    refine lv_if_eq (tgt := 51) hx hb dX13_change_17 (by decide) (fun c_17 => ?_) (fun c_17 => ?_)
    · skip
      refine lv_aload_n hx hb dX13_change_51 rfl (lv_at hl 0 rfl) ?_
      refine lv_iconst (v := 0) hx hb dX13_change_52 (by decide) ?_
      refine c_m (k_V (As := [.int 0]) (rest := []) F (k_X13_finds x 0 (by decide)) (cwV 1 hts (lw_V q1238 q1240 qs47 q107 q1241) rfl rfl rfl (by decide +kernel) ⟨Nat.le_of_ble_eq_true rfl, Nat.le_of_ble_eq_true rfl⟩) hI hK (hw.recv hI hK (mf_main) rfl) rfl hl.1 rfl (Nat.le_of_ble_eq_true rfl) dX13_change_53 ⟨Nat.le_of_ble_eq_true rfl, Nat.le_of_ble_eq_true rfl⟩) hS (fun H1 locs1 hI hS => ?_)
      obtain ⟨x2, ex2⟩ : ∃ z, z = (fndM x 0) := ⟨_, rfl⟩
      rw [← ex2] at hI
      exact W.iret hx hb hr (fun t ht _ => ⟨rI (by first | (simp [a_change, aR, tld_m, c_5, c_17]; done) | (simp [a_change, aR, c_5, c_17]; done)), by rw [ht]; exact hw_eq hI (congrArg (cfM D L) (by first | (rw [ex2]; simp [a_change, aM, tld_m, c_5, c_17]; done) | (rw [ex2]; simp [a_change, aM, c_5, c_17]; done))), hS.F ht⟩) hS.2.2 dX13_change_56
    · skip
      refine lv_iload_n hx hb dX13_change_20 rfl (lv_at hl 3 rfl) ?_
      refine lv_i2l (v := (v : Int32).toInt64) hx hb dX13_change_21 rfl ?_
      refine lv_lconst (v := 0) hx hb dX13_change_22 (by decide) ?_
      refine lv_iload_n hx hb dX13_change_23 rfl (lv_at hl 2 rfl) ?_
      refine c_r (k_S (As := [.int w]) (rest := [.long 0, .long ((v : Int32).toInt64)]) F (k_X13_mostOf w) (va_cwS 1 hts (lw_S q1317 q1318 q107 q1319) rfl rfl rfl (by decide +kernel) ⟨Nat.le_of_ble_eq_true rfl, Nat.le_of_ble_eq_true rfl⟩) rfl hl.1 rfl (Nat.le_of_ble_eq_true rfl) dX13_change_24 ⟨Nat.le_of_ble_eq_true rfl, Nat.le_of_ble_eq_true rfl⟩) ?_
      refine lv_i2l (v := ((moI w) : Int32).toInt64) hx hb dX13_change_27 rfl ?_
      refine c_r (k_S (As := [.long ((v : Int32).toInt64), .long 0, .long (((moI w) : Int32).toInt64)]) (rest := []) F (k_X13_in v 0 (moI w) ((v : Int32).toInt64 : Int64) (0 : Int64) (((moI w) : Int32).toInt64 : Int64) rfl (by decide) rfl) (va_cwS 3 hts (lw_S q1227 q1228 q107 q1229) rfl rfl rfl (by decide +kernel) ⟨Nat.le_of_ble_eq_true rfl, Nat.le_of_ble_eq_true rfl⟩) rfl hl.1 rfl (Nat.le_of_ble_eq_true rfl) dX13_change_28 ⟨Nat.le_of_ble_eq_true rfl, Nat.le_of_ble_eq_true rfl⟩) ?_
      refine lv_if_eq (tgt := 51) hx hb dX13_change_31 (by decide) (fun c_31 => ?_) (fun c_31 => ?_)
      · skip
        refine lv_aload_n hx hb dX13_change_51 rfl (lv_at hl 0 rfl) ?_
        refine lv_iconst (v := 0) hx hb dX13_change_52 (by decide) ?_
        refine c_m (k_V (As := [.int 0]) (rest := []) F (k_X13_finds x 0 (by decide)) (cwV 1 hts (lw_V q1238 q1240 qs47 q107 q1241) rfl rfl rfl (by decide +kernel) ⟨Nat.le_of_ble_eq_true rfl, Nat.le_of_ble_eq_true rfl⟩) hI hK (hw.recv hI hK (mf_main) rfl) rfl hl.1 rfl (Nat.le_of_ble_eq_true rfl) dX13_change_53 ⟨Nat.le_of_ble_eq_true rfl, Nat.le_of_ble_eq_true rfl⟩) hS (fun H1 locs1 hI hS => ?_)
        obtain ⟨x3, ex3⟩ : ∃ z, z = (fndM x 0) := ⟨_, rfl⟩
        rw [← ex3] at hI
        exact W.iret hx hb hr (fun t ht _ => ⟨rI (by first | (simp [a_change, aR, tld_m, c_5, c_17, c_31]; done) | (simp [a_change, aR, c_5, c_17, c_31]; done)), by rw [ht]; exact hw_eq hI (congrArg (cfM D L) (by first | (rw [ex3]; simp [a_change, aM, tld_m, c_5, c_17, c_31]; done) | (rw [ex3]; simp [a_change, aM, c_5, c_17, c_31]; done))), hS.F ht⟩) hS.2.2 dX13_change_56
      · skip
        obtain ⟨k, hk, eg⟩ := isGl_to hn h8 c_5
        have eg2 : g.toNatClampNeg = k := by rw [eg, nI_clamp (by omega)]
        obtain ⟨q, hq, ew⟩ := inI_to (b := 6) rfl (by decide) c_17
        have ew2 : w.toNatClampNeg = q := by rw [ew, nI_clamp (by omega)]
        have ht : ¬ isTldI w v = 0 := by rw [tld_m, if_neg c_17]; exact c_31
        subst eg
        subst ew
        refine lv_aload_n hx hb dX13_change_34 rfl (lv_at hl 0 rfl) ?_
        refine lv_bipush (v := 9) hx hb dX13_change_35 (by decide) ?_
        refine lv_bipush (v := 8) hx hb dX13_change_37 (by decide) ?_
        refine lv_iload_n hx hb dX13_change_39 rfl (lv_at hl 2 rfl) ?_
        refine lv_imul hx hb dX13_change_40 ?_
        refine lv_iadd hx hb dX13_change_41 ?_
        refine lv_iload_n hx hb dX13_change_42 rfl (lv_at hl 1 rfl) ?_
        refine lv_iadd hx hb dX13_change_43 ?_
        refine lv_iload_n hx hb dX13_change_44 rfl (lv_at hl 3 rfl) ?_
        refine c_m (k_V (As := [.int (((9 : Int32) + ((8 : Int32) * (nI q))) + (nI k)), .int v]) (rest := []) F (k_X13_becomes_r x v (((9 : Int32) + ((8 : Int32) * (nI q))) + (nI k)) q k (by omega) (by omega) (na_add (na_add (rfl) (na_mul (rfl) (rfl))) (rfl))) (cwV 2 hts (lw_V q1234 q1236 qs46 q107 q1237) rfl rfl rfl (by decide +kernel) ⟨Nat.le_of_ble_eq_true rfl, Nat.le_of_ble_eq_true rfl⟩) hI hK (hw.recv hI hK (mf_main) rfl) rfl hl.1 rfl (Nat.le_of_ble_eq_true rfl) dX13_change_45 ⟨Nat.le_of_ble_eq_true rfl, Nat.le_of_ble_eq_true rfl⟩) hS (fun H1 locs1 hI hS => ?_)
        obtain ⟨x4, ex4⟩ : ∃ z, z = ys x 0 (u2 (x.1 0) (2 + q) k v) := ⟨_, rfl⟩
        have hf_5 : (x4.1 0 1 0) = nI nn := by rw [ex4, ys_at, u2_ne (by omega)]; exact hn
        rw [← ex4] at hI
        refine lv_goto (tgt := 56) hx hb dX13_change_48 (by decide) ?_
        exact W.iret hx hb hr (fun t ht _ => ⟨rI (by first | (simp [a_change, aR, tld_m, c_5, c_17, c_31, eg2, ew2, ht]; done) | (simp [a_change, aR, c_5, c_17, c_31, eg2, ew2, ht]; done)), by rw [ht]; exact hw_eq hI (congrArg (cfM D L) (by first | (rw [ex4]; simp [a_change, aM, tld_m, c_5, c_17, c_31, eg2, ew2, ht]; done) | (rw [ex4]; simp [a_change, aM, c_5, c_17, c_31, eg2, ew2, ht]; done))), hS.F ht⟩) hS.2.2 dX13_change_56
theorem k_X13_draw {l : Launch} {D : va_G} {L : Nat → Nat} {A : Nat → Prop} (x : mst) (hO : wOk (x.1 0)) (g : Int32) : Met l yX13_draw (ws_ yX13_draw cX13_draw 2 (some .int)) ({ frames := 2, cells := 0, slots := 0, locals := 46 } : Room) (va_Pc [.ref (L 0), .int g] (pI D (cfM D L x) A)) (nQ D (cfM D L (aM x (a_draw (x.1 0) g))) A (some (.int (aR (a_draw (x.1 0) g))))) 0 0 A := by
  refine met_I (by decide) rfl (Nat.le_of_ble_eq_true rfl) ?_
  intro p e s m below meth c ls hx hb hr hml hown hts hlocks hl hI hK
  have F : CallFix p m c cX13_draw 2 s _ lw_all RX13 := ⟨hx, hb, hml, hown, hts⟩
  have hl : lv_has ls 2 [(0, .ref (L 0)), (1, .int g)] := hl
  have hS : va_S A s.heap s.heap [] := va_S.rf
  obtain ⟨nn, hn, h8⟩ : ∃ n, x.1 0 1 0 = nI n ∧ n ≤ 8 := ⟨_, hO.n⟩
  have hN : wN (x.1 0) = nn := by unfold wN; rw [hn, nI_clamp (by omega)]
  refine lv_aload_n hx hb dX13_draw_0 rfl (lv_at hl 0 rfl) ?_
  refine lv_iload_n hx hb dX13_draw_1 rfl (lv_at hl 1 rfl) ?_
  refine c_r (k_V (As := [.int g]) (rest := []) F (k_X13_isGlove x g) (cwV 1 hts (lw_V q1289 q1291 qs55 q107 q1292) rfl rfl rfl (by decide +kernel) ⟨Nat.le_of_ble_eq_true rfl, Nat.le_of_ble_eq_true rfl⟩) hI hK (hw.recv hI hK (mf_main) rfl) rfl hl.1 rfl (Nat.le_of_ble_eq_true rfl) dX13_draw_2 ⟨Nat.le_of_ble_eq_true rfl, Nat.le_of_ble_eq_true rfl⟩) ?_
  refine lv_if_ne (tgt := 14) hx hb dX13_draw_5 (by decide) (fun c_5 => ?_) (fun c_5 => ?_)
  · skip
    obtain ⟨k, hk, eg⟩ := isGl_to hn h8 c_5
    have eg2 : g.toNatClampNeg = k := by rw [eg, nI_clamp (by omega)]
    subst eg
    refine lv_aload_n hx hb dX13_draw_14 rfl (lv_at hl 0 rfl) ?_
    refine lv_iload_n hx hb dX13_draw_15 rfl (lv_at hl 1 rfl) ?_
    refine c_r (k_V (As := [.int (nI k)]) (rest := []) F (k_X13_stays x k (kN (x.1 0) k) (by omega) (hO.k (k := k) (by omega)).2 ((hO.k (k := k) (by omega)).1)) (cwV 1 hts (lw_V q1305 q1307 qs58 q107 q1308) rfl rfl rfl (by decide +kernel) ⟨Nat.le_of_ble_eq_true rfl, Nat.le_of_ble_eq_true rfl⟩) hI hK (hw.recv hI hK (mf_main) rfl) rfl hl.1 rfl (Nat.le_of_ble_eq_true rfl) dX13_draw_16 ⟨Nat.le_of_ble_eq_true rfl, Nat.le_of_ble_eq_true rfl⟩) ?_
    refine lv_if_ne (tgt := 28) hx hb dX13_draw_19 (by decide) (fun c_19 => ?_) (fun c_19 => ?_)
    · skip
      refine lv_aload_n hx hb dX13_draw_28 rfl (lv_at hl 0 rfl) ?_
      refine lv_iload_n hx hb dX13_draw_29 rfl (lv_at hl 1 rfl) ?_
      refine c_m (k_V (As := [.int (nI k)]) (rest := []) F (k_X13_drawnOn x k (by omega) ((hO.2.1 k (by omega)).2.2.2.2.2.2)) (cwV 1 hts (lw_V q1325 q1327 qs60 q107 q1328) rfl rfl rfl (by decide +kernel) ⟨Nat.le_of_ble_eq_true rfl, Nat.le_of_ble_eq_true rfl⟩) hI hK (hw.recv hI hK (mf_main) rfl) rfl hl.1 rfl (Nat.le_of_ble_eq_true rfl) dX13_draw_30 ⟨Nat.le_of_ble_eq_true rfl, Nat.le_of_ble_eq_true rfl⟩) hS (fun H1 locs1 hI hS => ?_)
      obtain ⟨x1, ex1⟩ : ∃ z, z = ys x 0 (isdw (x.1 0) k) := ⟨_, rfl⟩
      rw [← ex1] at hI
      refine lv_aload_n hx hb dX13_draw_33 rfl (lv_at hl 0 rfl) ?_
      refine lv_iload_n hx hb dX13_draw_34 rfl (lv_at hl 1 rfl) ?_
      refine lv_iconst (v := 5) hx hb dX13_draw_35 (by decide) ?_
      refine c_r (k_V (As := [.int (nI k), .int 5]) (rest := []) F (k_X13_its x1 (nI k) 5 k 5 (by omega) (by omega) rfl rfl) (cwV 2 hts (lw_V q1256 q1258 qs49 q107 q1259) rfl rfl rfl (by decide +kernel) ⟨Nat.le_of_ble_eq_true rfl, Nat.le_of_ble_eq_true rfl⟩) hI hK (hw.recv hI hK (mf_main) rfl) rfl hl.1 rfl (Nat.le_of_ble_eq_true rfl) dX13_draw_36 ⟨Nat.le_of_ble_eq_true rfl, Nat.le_of_ble_eq_true rfl⟩) ?_
      exact W.iret hx hb hr (fun t ht _ => ⟨rI (by first | (simp only [a_draw, aR, if_neg c_5, eg2, if_neg c_19]; done) | (simp [a_draw, aR, c_5, eg2, c_19]; done) | (rw [ex1, ys_at]; simp [a_draw, aR, c_5, eg2, c_19]; done)), by rw [ht]; exact hw_eq hI (congrArg (cfM D L) (by first | (rw [ex1]; simp only [a_draw, aM, if_neg c_5, eg2, if_neg c_19]; done) | (simp only [a_draw, aM, ys_self, if_neg c_5, eg2, if_neg c_19]; done) | (rw [ex1]; simp [a_draw, aM, c_5, eg2, c_19]; done) | (simp [a_draw, aM, c_5, eg2, c_19, ys_self]; done))), hS.F ht⟩) hS.2.2 dX13_draw_39
    · skip
      refine lv_aload_n hx hb dX13_draw_22 rfl (lv_at hl 0 rfl) ?_
      refine lv_iconst (v := 4) hx hb dX13_draw_23 (by decide) ?_
      refine c_m (k_V (As := [.int 4]) (rest := []) F (k_X13_finds x 4 (by decide)) (cwV 1 hts (lw_V q1238 q1240 qs47 q107 q1241) rfl rfl rfl (by decide +kernel) ⟨Nat.le_of_ble_eq_true rfl, Nat.le_of_ble_eq_true rfl⟩) hI hK (hw.recv hI hK (mf_main) rfl) rfl hl.1 rfl (Nat.le_of_ble_eq_true rfl) dX13_draw_24 ⟨Nat.le_of_ble_eq_true rfl, Nat.le_of_ble_eq_true rfl⟩) hS (fun H1 locs1 hI hS => ?_)
      obtain ⟨x2, ex2⟩ : ∃ z, z = (fndM x 4) := ⟨_, rfl⟩
      rw [← ex2] at hI
      exact W.iret hx hb hr (fun t ht _ => ⟨rI (by first | (simp only [a_draw, aR, if_neg c_5, eg2, if_pos c_19]; done) | (simp [a_draw, aR, c_5, eg2, c_19]; done) | (rw [ex2, ys_at]; simp [a_draw, aR, c_5, eg2, c_19]; done)), by rw [ht]; exact hw_eq hI (congrArg (cfM D L) (by first | (rw [ex2]; simp only [a_draw, aM, if_neg c_5, eg2, if_pos c_19]; done) | (simp only [a_draw, aM, ys_self, if_neg c_5, eg2, if_pos c_19]; done) | (rw [ex2]; simp [a_draw, aM, c_5, eg2, c_19]; done) | (simp [a_draw, aM, c_5, eg2, c_19, ys_self]; done))), hS.F ht⟩) hS.2.2 dX13_draw_27
  · skip
    refine lv_aload_n hx hb dX13_draw_8 rfl (lv_at hl 0 rfl) ?_
    refine lv_iconst (v := 0) hx hb dX13_draw_9 (by decide) ?_
    refine c_m (k_V (As := [.int 0]) (rest := []) F (k_X13_finds x 0 (by decide)) (cwV 1 hts (lw_V q1238 q1240 qs47 q107 q1241) rfl rfl rfl (by decide +kernel) ⟨Nat.le_of_ble_eq_true rfl, Nat.le_of_ble_eq_true rfl⟩) hI hK (hw.recv hI hK (mf_main) rfl) rfl hl.1 rfl (Nat.le_of_ble_eq_true rfl) dX13_draw_10 ⟨Nat.le_of_ble_eq_true rfl, Nat.le_of_ble_eq_true rfl⟩) hS (fun H1 locs1 hI hS => ?_)
    obtain ⟨x3, ex3⟩ : ∃ z, z = (fndM x 0) := ⟨_, rfl⟩
    rw [← ex3] at hI
    exact W.iret hx hb hr (fun t ht _ => ⟨rI (by first | (simp only [a_draw, aR, if_pos c_5]; done) | (simp [a_draw, aR, c_5]; done) | (rw [ex3, ys_at]; simp [a_draw, aR, c_5]; done)), by rw [ht]; exact hw_eq hI (congrArg (cfM D L) (by first | (rw [ex3]; simp only [a_draw, aM, if_pos c_5]; done) | (simp only [a_draw, aM, ys_self, if_pos c_5]; done) | (rw [ex3]; simp [a_draw, aM, c_5]; done) | (simp [a_draw, aM, c_5, ys_self]; done))), hS.F ht⟩) hS.2.2 dX13_draw_13
theorem k_X13_who {l : Launch} {D : va_G} {L : Nat → Nat} {A : Nat → Prop} (x : mst) (hO : wOk (x.1 0)) (t h : Int32) : Met l yX13_who (ws_ yX13_who cX13_who 5 (some .int)) ({ frames := 2, cells := 0, slots := 0, locals := 45 } : Room) (va_Pc [.ref (L 0), .int t, .int h] (pI D (cfM D L x) A)) (nQ D (cfM D L (aM x (a_who (x.1 0) t h))) A (some (.int (aR (a_who (x.1 0) t h))))) 0 0 A := by
  refine met_I (by decide) rfl (Nat.le_of_ble_eq_true rfl) ?_
  intro p e s m below meth c ls hx hb hr hml hown hts hlocks hl hI hK
  have F : CallFix p m c cX13_who 5 s _ lw_all RX13 := ⟨hx, hb, hml, hown, hts⟩
  have hl : lv_has ls 5 [(0, .ref (L 0)), (1, .int t), (2, .int h)] := hl
  have hS : va_S A s.heap s.heap [] := va_S.rf
  obtain ⟨nn, hn, h8⟩ : ∃ n, x.1 0 1 0 = nI n ∧ n ≤ 8 := ⟨_, hO.n⟩
  have hN : wN (x.1 0) = nn := by unfold wN; rw [hn, nI_clamp (by omega)]
  refine lv_iload_n hx hb dX13_who_0 rfl (lv_at hl 1 rfl) ?_
  refine c_r (k_S (As := [.int t]) (rest := []) F (k_X13_isTopic t) (va_cwS 1 hts (lw_S q1333 q1334 q107 q1335) rfl rfl rfl (by decide +kernel) ⟨Nat.le_of_ble_eq_true rfl, Nat.le_of_ble_eq_true rfl⟩) rfl hl.1 rfl (Nat.le_of_ble_eq_true rfl) dX13_who_1 ⟨Nat.le_of_ble_eq_true rfl, Nat.le_of_ble_eq_true rfl⟩) ?_
  refine lv_if_eq (tgt := 17) hx hb dX13_who_4 (by decide) (fun c_4 => ?_) (fun c_4 => ?_)
  · skip
    refine lv_aload_n hx hb dX13_who_17 rfl (lv_at hl 0 rfl) ?_
    refine lv_iconst (v := 0) hx hb dX13_who_18 (by decide) ?_
    refine c_m (k_V (As := [.int 0]) (rest := []) F (k_X13_finds x 0 (by decide)) (cwV 1 hts (lw_V q1238 q1240 qs47 q107 q1241) rfl rfl rfl (by decide +kernel) ⟨Nat.le_of_ble_eq_true rfl, Nat.le_of_ble_eq_true rfl⟩) hI hK (hw.recv hI hK (mf_main) rfl) rfl hl.1 rfl (Nat.le_of_ble_eq_true rfl) dX13_who_19 ⟨Nat.le_of_ble_eq_true rfl, Nat.le_of_ble_eq_true rfl⟩) hS (fun H1 locs1 hI hS => ?_)
    obtain ⟨x1, ex1⟩ : ∃ z, z = (fndM x 0) := ⟨_, rfl⟩
    rw [← ex1] at hI
    exact W.iret hx hb hr (fun t ht _ => ⟨rI (by first | (simp [a_who, aR, c_4]; done) | (rw [a_who_m c_4 c_14, aR, woI, hN, show i = nn by omega])), by rw [ht]; exact hw_eq hI (congrArg (cfM D L) (by first | (rw [ex1]; simp [a_who, aM, c_4]; done) | (rw [ex1, a_who_m c_4 c_14, aM, ys_self]))), hS.F ht⟩) hS.2.2 dX13_who_22
  · skip
    refine lv_iload_n hx hb dX13_who_7 rfl (lv_at hl 2 rfl) ?_
    refine lv_i2l (v := (h : Int32).toInt64) hx hb dX13_who_8 rfl ?_
    refine lv_lconst (v := 0) hx hb dX13_who_9 (by decide) ?_
    refine lv_lconst (v := 1) hx hb dX13_who_10 (by decide) ?_
    refine c_r (k_S (As := [.long ((h : Int32).toInt64), .long 0, .long 1]) (rest := []) F (k_X13_in h 0 1 ((h : Int32).toInt64 : Int64) (0 : Int64) (1 : Int64) rfl (by decide) (by decide)) (va_cwS 3 hts (lw_S q1227 q1228 q107 q1229) rfl rfl rfl (by decide +kernel) ⟨Nat.le_of_ble_eq_true rfl, Nat.le_of_ble_eq_true rfl⟩) rfl hl.1 rfl (Nat.le_of_ble_eq_true rfl) dX13_who_11 ⟨Nat.le_of_ble_eq_true rfl, Nat.le_of_ble_eq_true rfl⟩) ?_
    refine lv_if_ne (tgt := 23) hx hb dX13_who_14 (by decide) (fun c_14 => ?_) (fun c_14 => ?_)
    · skip
      refine lv_iconst (v := 0) hx hb dX13_who_23 (by decide) ?_
      refine lv_istore_n (lv' := [(3, .int 0), (0, .ref (L 0)), (1, .int t), (2, .int h)]) hx hb dX13_who_24 rfl hl (by decide) rfl (fun ls hl => ?_)
      refine lv_iconst (v := 0) hx hb dX13_who_25 (by decide) ?_
      refine lv_istore (lv' := [(4, .int 0), (3, .int 0), (0, .ref (L 0)), (1, .int t), (2, .int h)]) hx hb dX13_who_26 hl (by decide) rfl (fun ls hl => ?_)
      have lp28 : ∀ (fuel : Nat) (i : Nat), (i ≤ nn) → nn - i < fuel → ∀ (v3 : Int32) (v4 : Int32), v3 = itr (woS (x.1 0) t (whr h)) 0 i → v4 = nI i → ∀ (xc28 : mst), xc28 = x → ∀ (H : Heap) (locs : List Loc), hw D (cfM D L xc28) A H → va_S A s.heap H locs → ∀ (ls : Array Slot), lv_has ls 5 [(0, .ref (L 0)), (1, .int t), (2, .int h), (3, .int v3), (4, .int v4)] → W p l e ({ frames := 2, cells := 0, slots := 0, locals := 45 } : Room) s m ([.ref (L 0), .int t, .int h] : List Value).toArray below meth c H locs 0 0 (MQ below (nQ D (cfM D L (aM x (a_who (x.1 0) t h))) A (some (.int (aR (a_who (x.1 0) t h))))) ([.ref (L 0), .int t, .int h] : List Value).toArray s 0 0 A) (F0 m 28 ls []) := by
        intro fuel
        induction fuel with
        | zero => intro i hi hf; exact absurd hf (Nat.not_lt_zero _)
        | succ fuel ih28 =>
          intro i hi hf28 v3 v4 e3 e4  xc28 exc28 H locs hI hS ls hl
          subst e3 e4
          have hq1 : xc28.1 0 1 0 = nI nn := by rw [exc28]; exact hn
          refine lv_iload hx hb dX13_who_28 (lv_at hl 4 rfl) ?_
          refine lv_aload_n hx hb dX13_who_30 rfl (lv_at hl 0 rfl) ?_
          refine r_get (C := RX13) (T := TX13) (N := 18) hx hb hts in_X13 hown hK hI (mf_main) rfl 0 (by decide) (hts _ q1164) (fun _ h => h) rfl dX13_who_31 ?_
          refine lv_iconst (v := 0) hx hb dX13_who_34 (by decide) ?_
          refine n_ialdv (k := 0) (v := (xc28.1 0 1 0)) hx hb hK hI (mf_d) (rfl) (by decide) (by decide) (rfl) dX13_who_35 ?_
          refine lv_icmp_ge (tgt := 70) hx hb dX13_who_36 (by decide) (fun c_36 => ?_) (fun c_36 => ?_)
          · skip
            have c_36 : nn ≤ i := (nle (a := nn) (b := i) (hq1) (rfl) (by omega) (by omega)).mp c_36
            refine lv_iload_n hx hb dX13_who_70 rfl (lv_at hl 3 rfl) ?_
            exact W.iret hx hb hr (fun t ht _ => ⟨rI (by first | (simp [a_who, aR, c_4, c_14, c_36]; done) | (rw [a_who_m c_4 c_14, aR, woI, hN, show i = nn by omega])), by rw [ht]; exact hw_eq hI (congrArg (cfM D L) (by first | (rw [exc28]; simp [a_who, aM, c_4, c_14, c_36]; done) | (rw [exc28, a_who_m c_4 c_14, aM, ys_self]))), hS.F ht⟩) hS.2.2 dX13_who_71
          · skip
            have c_36 : ¬ nn ≤ i := fun z => c_36 ((nle (a := nn) (b := i) (hq1) (rfl) (by omega) (by omega)).mpr z)
            refine lv_iload_n hx hb dX13_who_39 rfl (lv_at hl 3 rfl) ?_
            refine lv_aload_n hx hb dX13_who_40 rfl (lv_at hl 0 rfl) ?_
            refine lv_iload hx hb dX13_who_41 (lv_at hl 4 rfl) ?_
            refine lv_iload_n hx hb dX13_who_43 rfl (lv_at hl 2 rfl) ?_
            refine lv_if_ne (tgt := 51) hx hb dX13_who_44 (by decide) (fun c_44 => ?_) (fun c_44 => ?_)
            · skip
              refine lv_iconst (v := 5) hx hb dX13_who_51 (by decide) ?_
              refine c_r (k_V (As := [.int (nI i), .int 5]) (rest := [.int (itr (woS (x.1 0) t (whr h)) 0 i)]) F (k_X13_its xc28 (nI i) 5 i 5 (by omega) (by omega) rfl rfl) (cwV 2 hts (lw_V q1256 q1258 qs49 q107 q1259) rfl rfl rfl (by decide +kernel) ⟨Nat.le_of_ble_eq_true rfl, Nat.le_of_ble_eq_true rfl⟩) hI hK (hw.recv hI hK (mf_main) rfl) rfl hl.1 rfl (Nat.le_of_ble_eq_true rfl) dX13_who_52 ⟨Nat.le_of_ble_eq_true rfl, Nat.le_of_ble_eq_true rfl⟩) ?_
              refine lv_iload_n hx hb dX13_who_55 rfl (lv_at hl 1 rfl) ?_
              refine lv_ishr hx hb dX13_who_56 ?_
              refine lv_iconst (v := 1) hx hb dX13_who_57 (by decide) ?_
              refine lv_iand hx hb dX13_who_58 ?_
              refine lv_iload hx hb dX13_who_59 (lv_at hl 4 rfl) ?_
              refine lv_ishl hx hb dX13_who_61 ?_
              refine lv_ior hx hb dX13_who_62 ?_
              refine lv_istore_n (lv' := [(3, .int ((itr (woS (x.1 0) t (whr h)) 0 i) ||| ((((xc28.1 0 (2 + 5) i) >>> (t &&& 31)) &&& (1 : Int32)) <<< ((nI i) &&& 31)))), (0, .ref (L 0)), (1, .int t), (2, .int h), (4, .int (nI i))]) hx hb dX13_who_63 rfl hl (by decide) rfl (fun ls hl => ?_)
              refine lv_iinc (v := (nI (i + 1))) (lv' := [(4, .int (nI (i + 1))), (3, .int ((itr (woS (x.1 0) t (whr h)) 0 i) ||| ((((xc28.1 0 (2 + 5) i) >>> (t &&& 31)) &&& (1 : Int32)) <<< ((nI i) &&& 31)))), (0, .ref (L 0)), (1, .int t), (2, .int h)]) hx hb dX13_who_64 hl (k := 4) rfl (nI_1 _) (by decide) rfl (fun ls hl => ?_)
              refine lv_goto (tgt := 28) hx hb dX13_who_67 (by decide) ?_
              exact ih28 (i + 1) (by omega) (by omega) ((itr (woS (x.1 0) t (whr h)) 0 i) ||| ((((xc28.1 0 (2 + 5) i) >>> (t &&& 31)) &&& (1 : Int32)) <<< ((nI i) &&& 31))) (nI (i + 1)) (by rw [itr_s, woS, who_b, exc28]; simp [whr, c_4, c_14, c_36, c_44]) (rfl) xc28 (exc28) _ _ hI hS ls (lv_sub hl [2, 3, 4, 1, 0] rfl)
            · skip
              refine lv_iconst (v := 3) hx hb dX13_who_47 (by decide) ?_
              refine lv_goto (tgt := 52) hx hb dX13_who_48 (by decide) ?_
              refine c_r (k_V (As := [.int (nI i), .int 3]) (rest := [.int (itr (woS (x.1 0) t (whr h)) 0 i)]) F (k_X13_its xc28 (nI i) 3 i 3 (by omega) (by omega) rfl rfl) (cwV 2 hts (lw_V q1256 q1258 qs49 q107 q1259) rfl rfl rfl (by decide +kernel) ⟨Nat.le_of_ble_eq_true rfl, Nat.le_of_ble_eq_true rfl⟩) hI hK (hw.recv hI hK (mf_main) rfl) rfl hl.1 rfl (Nat.le_of_ble_eq_true rfl) dX13_who_52 ⟨Nat.le_of_ble_eq_true rfl, Nat.le_of_ble_eq_true rfl⟩) ?_
              refine lv_iload_n hx hb dX13_who_55 rfl (lv_at hl 1 rfl) ?_
              refine lv_ishr hx hb dX13_who_56 ?_
              refine lv_iconst (v := 1) hx hb dX13_who_57 (by decide) ?_
              refine lv_iand hx hb dX13_who_58 ?_
              refine lv_iload hx hb dX13_who_59 (lv_at hl 4 rfl) ?_
              refine lv_ishl hx hb dX13_who_61 ?_
              refine lv_ior hx hb dX13_who_62 ?_
              refine lv_istore_n (lv' := [(3, .int ((itr (woS (x.1 0) t (whr h)) 0 i) ||| ((((xc28.1 0 (2 + 3) i) >>> (t &&& 31)) &&& (1 : Int32)) <<< ((nI i) &&& 31)))), (0, .ref (L 0)), (1, .int t), (2, .int h), (4, .int (nI i))]) hx hb dX13_who_63 rfl hl (by decide) rfl (fun ls hl => ?_)
              refine lv_iinc (v := (nI (i + 1))) (lv' := [(4, .int (nI (i + 1))), (3, .int ((itr (woS (x.1 0) t (whr h)) 0 i) ||| ((((xc28.1 0 (2 + 3) i) >>> (t &&& 31)) &&& (1 : Int32)) <<< ((nI i) &&& 31)))), (0, .ref (L 0)), (1, .int t), (2, .int h)]) hx hb dX13_who_64 hl (k := 4) rfl (nI_1 _) (by decide) rfl (fun ls hl => ?_)
              refine lv_goto (tgt := 28) hx hb dX13_who_67 (by decide) ?_
              exact ih28 (i + 1) (by omega) (by omega) ((itr (woS (x.1 0) t (whr h)) 0 i) ||| ((((xc28.1 0 (2 + 3) i) >>> (t &&& 31)) &&& (1 : Int32)) <<< ((nI i) &&& 31))) (nI (i + 1)) (by rw [itr_s, woS, who_b, exc28]; simp [whr, c_4, c_14, c_36, c_44]) (rfl) xc28 (exc28) _ _ hI hS ls (lv_sub hl [2, 3, 4, 1, 0] rfl)
      exact lp28 (_ + 1) (0) (Nat.zero_le _) (Nat.lt_succ_self _) 0 0 (rfl) (rfl) x (rfl) _ _ hI hS ls (lv_sub hl [2, 3, 4, 1, 0] rfl)
    · skip
      refine lv_aload_n hx hb dX13_who_17 rfl (lv_at hl 0 rfl) ?_
      refine lv_iconst (v := 0) hx hb dX13_who_18 (by decide) ?_
      refine c_m (k_V (As := [.int 0]) (rest := []) F (k_X13_finds x 0 (by decide)) (cwV 1 hts (lw_V q1238 q1240 qs47 q107 q1241) rfl rfl rfl (by decide +kernel) ⟨Nat.le_of_ble_eq_true rfl, Nat.le_of_ble_eq_true rfl⟩) hI hK (hw.recv hI hK (mf_main) rfl) rfl hl.1 rfl (Nat.le_of_ble_eq_true rfl) dX13_who_19 ⟨Nat.le_of_ble_eq_true rfl, Nat.le_of_ble_eq_true rfl⟩) hS (fun H1 locs1 hI hS => ?_)
      obtain ⟨x2, ex2⟩ : ∃ z, z = (fndM x 0) := ⟨_, rfl⟩
      rw [← ex2] at hI
      exact W.iret hx hb hr (fun t ht _ => ⟨rI (by first | (simp [a_who, aR, c_4, c_14]; done) | (rw [a_who_m c_4 c_14, aR, woI, hN, show i = nn by omega])), by rw [ht]; exact hw_eq hI (congrArg (cfM D L) (by first | (rw [ex2]; simp [a_who, aM, c_4, c_14]; done) | (rw [ex2, a_who_m c_4 c_14, aM, ys_self]))), hS.F ht⟩) hS.2.2 dX13_who_22
theorem k_X13_go {l : Launch} {D : va_G} {L : Nat → Nat} {A : Nat → Prop} (x : mst) (hO : wOk (x.1 0)) (hd : isN (x.1 0 1 2) 10000) (n : Int32) : Met l yX13_go (ws_ yX13_go cX13_go 2 (some .int)) ({ frames := 7, cells := 0, slots := 0, locals := 158 } : Room) (va_Pc [.ref (L 0), .int n] (pI D (cfM D L x) A)) (nQ D (cfM D L (aM x (a_go (x.1 0) n))) A (some (.int (aR (a_go (x.1 0) n))))) 0 0 A := by
  refine met_I (by decide) rfl (Nat.le_of_ble_eq_true rfl) ?_
  intro p e s m below meth c ls hx hb hr hml hown hts hlocks hl hI hK
  have F : CallFix p m c cX13_go 2 s _ lw_all RX13 := ⟨hx, hb, hml, hown, hts⟩
  have hl : lv_has ls 2 [(0, .ref (L 0)), (1, .int n)] := hl
  have hS : va_S A s.heap s.heap [] := va_S.rf
  refine lv_iload_n hx hb dX13_go_0 rfl (lv_at hl 1 rfl) ?_
  refine lv_i2l (v := (n : Int32).toInt64) hx hb dX13_go_1 rfl ?_
  refine lv_lconst (v := 1) hx hb dX13_go_2 (by decide) ?_
  refine lv_ldc2 (v := 60) hx hb hown (hts _ q1341) dX13_go_3 ?_
  refine c_r (k_S (As := [.long ((n : Int32).toInt64), .long 1, .long 60]) (rest := []) F (k_X13_in n 1 60 ((n : Int32).toInt64 : Int64) (1 : Int64) (60 : Int64) rfl (by decide) (by decide)) (va_cwS 3 hts (lw_S q1227 q1228 q107 q1229) rfl rfl rfl (by decide +kernel) ⟨Nat.le_of_ble_eq_true rfl, Nat.le_of_ble_eq_true rfl⟩) rfl hl.1 rfl (Nat.le_of_ble_eq_true rfl) dX13_go_6 ⟨Nat.le_of_ble_eq_true rfl, Nat.le_of_ble_eq_true rfl⟩) ?_
  refine lv_if_ne (tgt := 18) hx hb dX13_go_9 (by decide) (fun c_9 => ?_) (fun c_9 => ?_)
  · skip
    obtain ⟨k, hk1, hk, en⟩ := inI_to1 (a := 1) (b := 60) rfl rfl (by decide) (by decide) c_9
    have en2 : n.toNatClampNeg = k := by rw [en, nI_clamp (by omega)]
    subst en
    refine lv_aload_n hx hb dX13_go_18 rfl (lv_at hl 0 rfl) ?_
    refine r_get (C := RX13) (T := TX13) (N := 18) hx hb hts in_X13 hown hK hI (mf_main) rfl 0 (by decide) (hts _ q1164) (fun _ h => h) rfl dX13_go_19 ?_
    refine lv_iconst (v := 1) hx hb dX13_go_22 (by decide) ?_
    refine n_ialdv (k := 1) (v := (x.1 0 1 2)) hx hb hK hI (mf_d) (rfl) (by decide) (by decide) (rfl) dX13_go_23 ?_
    refine lv_iload_n hx hb dX13_go_24 rfl (lv_at hl 1 rfl) ?_
    refine lv_iadd hx hb dX13_go_25 ?_
    refine lv_ldc (v := 99999) hx hb hown (hts _ q1342) dX13_go_26 ?_
    refine lv_icmp_le (tgt := 37) hx hb dX13_go_28 (by decide) (fun c_28 => ?_) (fun c_28 => ?_)
    · skip
      have c_28 := Int32.not_lt.mpr c_28
      refine lv_aload_n hx hb dX13_go_37 rfl (lv_at hl 0 rfl) ?_
      refine lv_iload_n hx hb dX13_go_38 rfl (lv_at hl 1 rfl) ?_
      refine c_m (k_V (As := [.int (nI k)]) (rest := []) F (k_X13_daysGo x (hO) (hd) k (by omega)) (cwV 1 hts (lw_V q1343 q1345 qs61 q107 q1346) rfl rfl rfl (by decide +kernel) ⟨Nat.le_of_ble_eq_true rfl, Nat.le_of_ble_eq_true rfl⟩) hI hK (hw.recv hI hK (mf_main) rfl) rfl hl.1 rfl (Nat.le_of_ble_eq_true rfl) dX13_go_39 ⟨Nat.le_of_ble_eq_true rfl, Nat.le_of_ble_eq_true rfl⟩) hS (fun H1 locs1 hI hS => ?_)
      obtain ⟨x1, ex1⟩ : ∃ z, z = ys x 0 (psn (x.1 0) k) := ⟨_, rfl⟩
      rw [← ex1] at hI
      have hO_x1 : wOk (x1.1 0) := by rw [ex1, ys_at]; exact wOk_psn hO hd k (by omega)
      refine lv_aload_n hx hb dX13_go_42 rfl (lv_at hl 0 rfl) ?_
      refine c_r (k_V (As := []) (rest := []) F (k_X13_allKnow x1 (hO_x1)) (cwV 0 hts (lw_V q1366 q1368 qs66 q107 q1369) rfl rfl rfl (by decide +kernel) ⟨Nat.le_of_ble_eq_true rfl, Nat.le_of_ble_eq_true rfl⟩) hI hK (hw.recv hI hK (mf_main) rfl) rfl hl.1 rfl (Nat.le_of_ble_eq_true rfl) dX13_go_43 ⟨Nat.le_of_ble_eq_true rfl, Nat.le_of_ble_eq_true rfl⟩) ?_
      exact W.iret hx hb hr (fun t ht _ => ⟨rI (by first | (simp [a_go, aR, ltI, c_9, en2, c_28]; done) | (rw [ex1, ys_at]; simp [a_go, aR, ltI, c_9, en2, c_28]; done)), by rw [ht]; exact hw_eq hI (congrArg (cfM D L) (by first | (rw [ex1]; simp [a_go, aM, ltI, c_9, en2, c_28]; done))), hS.F ht⟩) hS.2.2 dX13_go_46
    · skip
      have c_28 := Int32.not_le.mp c_28
      refine lv_aload_n hx hb dX13_go_31 rfl (lv_at hl 0 rfl) ?_
      refine lv_iconst (v := 4) hx hb dX13_go_32 (by decide) ?_
      refine c_m (k_V (As := [.int 4]) (rest := []) F (k_X13_finds x 4 (by decide)) (cwV 1 hts (lw_V q1238 q1240 qs47 q107 q1241) rfl rfl rfl (by decide +kernel) ⟨Nat.le_of_ble_eq_true rfl, Nat.le_of_ble_eq_true rfl⟩) hI hK (hw.recv hI hK (mf_main) rfl) rfl hl.1 rfl (Nat.le_of_ble_eq_true rfl) dX13_go_33 ⟨Nat.le_of_ble_eq_true rfl, Nat.le_of_ble_eq_true rfl⟩) hS (fun H1 locs1 hI hS => ?_)
      obtain ⟨x2, ex2⟩ : ∃ z, z = (fndM x 4) := ⟨_, rfl⟩
      rw [← ex2] at hI
      exact W.iret hx hb hr (fun t ht _ => ⟨rI (by first | (simp [a_go, aR, ltI, c_9, en2, c_28]; done) | (rw [ex2, ys_at]; simp [a_go, aR, ltI, c_9, en2, c_28]; done)), by rw [ht]; exact hw_eq hI (congrArg (cfM D L) (by first | (rw [ex2]; simp [a_go, aM, ltI, c_9, en2, c_28]; done))), hS.F ht⟩) hS.2.2 dX13_go_36
  · skip
    refine lv_aload_n hx hb dX13_go_12 rfl (lv_at hl 0 rfl) ?_
    refine lv_iconst (v := 0) hx hb dX13_go_13 (by decide) ?_
    refine c_m (k_V (As := [.int 0]) (rest := []) F (k_X13_finds x 0 (by decide)) (cwV 1 hts (lw_V q1238 q1240 qs47 q107 q1241) rfl rfl rfl (by decide +kernel) ⟨Nat.le_of_ble_eq_true rfl, Nat.le_of_ble_eq_true rfl⟩) hI hK (hw.recv hI hK (mf_main) rfl) rfl hl.1 rfl (Nat.le_of_ble_eq_true rfl) dX13_go_14 ⟨Nat.le_of_ble_eq_true rfl, Nat.le_of_ble_eq_true rfl⟩) hS (fun H1 locs1 hI hS => ?_)
    obtain ⟨x3, ex3⟩ : ∃ z, z = (fndM x 0) := ⟨_, rfl⟩
    rw [← ex3] at hI
    exact W.iret hx hb hr (fun t ht _ => ⟨rI (by first | (simp [a_go, aR, ltI, c_9]; done) | (rw [ex3, ys_at]; simp [a_go, aR, ltI, c_9]; done)), by rw [ht]; exact hw_eq hI (congrArg (cfM D L) (by first | (rw [ex3]; simp [a_go, aM, ltI, c_9]; done))), hS.F ht⟩) hS.2.2 dX13_go_17
theorem k_X13_now {l : Launch} {D : va_G} {L : Nat → Nat} {A : Nat → Prop} (x : mst) (hO : wOk (x.1 0)) (w : Int32) : Met l yX13_now (ws_ yX13_now cX13_now 2 (some .int)) ({ frames := 5, cells := 0, slots := 0, locals := 114 } : Room) (va_Pc [.ref (L 0), .int w] (pI D (cfM D L x) A)) (nQ D (cfM D L (aM x (a_now (x.1 0) w))) A (some (.int (aR (a_now (x.1 0) w))))) 0 0 A := by
  refine met_I (by decide) rfl (Nat.le_of_ble_eq_true rfl) ?_
  intro p e s m below meth c ls hx hb hr hml hown hts hlocks hl hI hK
  have F : CallFix p m c cX13_now 2 s _ lw_all RX13 := ⟨hx, hb, hml, hown, hts⟩
  have hl : lv_has ls 2 [(0, .ref (L 0)), (1, .int w)] := hl
  have hS : va_S A s.heap s.heap [] := va_S.rf
  refine lv_iload_n hx hb dX13_now_0 rfl (lv_at hl 1 rfl) ?_
  by_cases c_1_0 : w = 0
  · skip
    refine lv_tableIn (off := 43) (tgt := 44) hx hb dX13_now_1 (by rw [c_1_0]; decide) (by rw [c_1_0]; decide) (by rw [c_1_0]; rfl) (by decide) ?_
    refine lv_aload_n hx hb dX13_now_44 rfl (lv_at hl 0 rfl) ?_
    refine r_get (C := RX13) (T := TX13) (N := 18) hx hb hts in_X13 hown hK hI (mf_main) rfl 0 (by decide) (hts _ q1164) (fun _ h => h) rfl dX13_now_45 ?_
    refine lv_iconst (v := 1) hx hb dX13_now_48 (by decide) ?_
    refine n_ialdv (k := 1) (v := (x.1 0 1 2)) hx hb hK hI (mf_d) (rfl) (by decide) (by decide) (rfl) dX13_now_49 ?_
    exact W.iret hx hb hr (fun t ht _ => ⟨rI (by first | (simp only [a_now, aR, kbI, if_pos c_1_0]; done) | (simp [a_now, aR, c_1_0]; done)), by rw [ht]; exact hw_eq hI (congrArg (cfM D L) (by first | (rw []; simp only [a_now, aM, if_pos c_1_0]; done) | (simp only [a_now, aM, ys_self, if_pos c_1_0]; done) | (rw []; simp [a_now, aM, c_1_0]; done) | (simp [a_now, aM, c_1_0, ys_self]; done))), hS.F ht⟩) hS.2.2 dX13_now_50
  by_cases c_1_1 : w = 1
  · skip
    refine lv_tableIn (off := 50) (tgt := 51) hx hb dX13_now_1 (by rw [c_1_1]; decide) (by rw [c_1_1]; decide) (by rw [c_1_1]; rfl) (by decide) ?_
    refine lv_aload_n hx hb dX13_now_51 rfl (lv_at hl 0 rfl) ?_
    refine c_r (k_V (As := []) (rest := []) F (k_X13_allKnow x (hO)) (cwV 0 hts (lw_V q1366 q1368 qs66 q107 q1369) rfl rfl rfl (by decide +kernel) ⟨Nat.le_of_ble_eq_true rfl, Nat.le_of_ble_eq_true rfl⟩) hI hK (hw.recv hI hK (mf_main) rfl) rfl hl.1 rfl (Nat.le_of_ble_eq_true rfl) dX13_now_52 ⟨Nat.le_of_ble_eq_true rfl, Nat.le_of_ble_eq_true rfl⟩) ?_
    exact W.iret hx hb hr (fun t ht _ => ⟨rI (by first | (simp only [a_now, aR, kbI, if_neg c_1_0, if_pos c_1_1]; done) | (simp [a_now, aR, c_1_0, c_1_1]; done)), by rw [ht]; exact hw_eq hI (congrArg (cfM D L) (by first | (rw []; simp only [a_now, aM, if_neg c_1_0, if_pos c_1_1]; done) | (simp only [a_now, aM, ys_self, if_neg c_1_0, if_pos c_1_1]; done) | (rw []; simp [a_now, aM, c_1_0, c_1_1]; done) | (simp [a_now, aM, c_1_0, c_1_1, ys_self]; done))), hS.F ht⟩) hS.2.2 dX13_now_55
  by_cases c_1_2 : w = 2
  · skip
    refine lv_tableIn (off := 55) (tgt := 56) hx hb dX13_now_1 (by rw [c_1_2]; decide) (by rw [c_1_2]; decide) (by rw [c_1_2]; rfl) (by decide) ?_
    refine lv_aload_n hx hb dX13_now_56 rfl (lv_at hl 0 rfl) ?_
    refine c_r (k_V (As := []) (rest := []) F (k_X13_allHands x (hO)) (cwV 0 hts (lw_V q1374 q1376 qs67 q107 q1377) rfl rfl rfl (by decide +kernel) ⟨Nat.le_of_ble_eq_true rfl, Nat.le_of_ble_eq_true rfl⟩) hI hK (hw.recv hI hK (mf_main) rfl) rfl hl.1 rfl (Nat.le_of_ble_eq_true rfl) dX13_now_57 ⟨Nat.le_of_ble_eq_true rfl, Nat.le_of_ble_eq_true rfl⟩) ?_
    exact W.iret hx hb hr (fun t ht _ => ⟨rI (by first | (simp only [a_now, aR, kbI, if_neg c_1_0, if_neg c_1_1, if_pos c_1_2]; done) | (simp [a_now, aR, c_1_0, c_1_1, c_1_2]; done)), by rw [ht]; exact hw_eq hI (congrArg (cfM D L) (by first | (rw []; simp only [a_now, aM, if_neg c_1_0, if_neg c_1_1, if_pos c_1_2]; done) | (simp only [a_now, aM, ys_self, if_neg c_1_0, if_neg c_1_1, if_pos c_1_2]; done) | (rw []; simp [a_now, aM, c_1_0, c_1_1, c_1_2]; done) | (simp [a_now, aM, c_1_0, c_1_1, c_1_2, ys_self]; done))), hS.F ht⟩) hS.2.2 dX13_now_60
  by_cases c_1_3 : w = 3
  · skip
    refine lv_tableIn (off := 60) (tgt := 61) hx hb dX13_now_1 (by rw [c_1_3]; decide) (by rw [c_1_3]; decide) (by rw [c_1_3]; rfl) (by decide) ?_
    refine lv_ldc (v := 65535) hx hb hown (hts _ q1320) dX13_now_61 ?_
    refine lv_aload_n hx hb dX13_now_63 rfl (lv_at hl 0 rfl) ?_
    refine c_r (k_V (As := []) (rest := [.int 65535]) F (k_X13_allKnow x (hO)) (cwV 0 hts (lw_V q1366 q1368 qs66 q107 q1369) rfl rfl rfl (by decide +kernel) ⟨Nat.le_of_ble_eq_true rfl, Nat.le_of_ble_eq_true rfl⟩) hI hK (hw.recv hI hK (mf_main) rfl) rfl hl.1 rfl (Nat.le_of_ble_eq_true rfl) dX13_now_64 ⟨Nat.le_of_ble_eq_true rfl, Nat.le_of_ble_eq_true rfl⟩) ?_
    refine lv_aload_n hx hb dX13_now_67 rfl (lv_at hl 0 rfl) ?_
    refine c_r (k_V (As := []) (rest := [.int (knI (x.1 0) 3 (allI (x.1 0))), .int 65535]) F (k_X13_allHands x (hO)) (cwV 0 hts (lw_V q1374 q1376 qs67 q107 q1377) rfl rfl rfl (by decide +kernel) ⟨Nat.le_of_ble_eq_true rfl, Nat.le_of_ble_eq_true rfl⟩) hI hK (hw.recv hI hK (mf_main) rfl) rfl hl.1 rfl (Nat.le_of_ble_eq_true rfl) dX13_now_68 ⟨Nat.le_of_ble_eq_true rfl, Nat.le_of_ble_eq_true rfl⟩) ?_
    refine lv_ior hx hb dX13_now_71 ?_
    refine lv_iconst (v := (-1)) hx hb dX13_now_72 (by decide) ?_
    refine lv_ixor hx hb dX13_now_73 ?_
    refine lv_iand hx hb dX13_now_74 ?_
    exact W.iret hx hb hr (fun t ht _ => ⟨rI (by first | (simp only [a_now, aR, kbI, if_neg c_1_0, if_neg c_1_1, if_neg c_1_2, if_pos c_1_3]; done) | (simp [a_now, aR, c_1_0, c_1_1, c_1_2, c_1_3]; done)), by rw [ht]; exact hw_eq hI (congrArg (cfM D L) (by first | (rw []; simp only [a_now, aM, if_neg c_1_0, if_neg c_1_1, if_neg c_1_2, if_pos c_1_3]; done) | (simp only [a_now, aM, ys_self, if_neg c_1_0, if_neg c_1_1, if_neg c_1_2, if_pos c_1_3]; done) | (rw []; simp [a_now, aM, c_1_0, c_1_1, c_1_2, c_1_3]; done) | (simp [a_now, aM, c_1_0, c_1_1, c_1_2, c_1_3, ys_self]; done))), hS.F ht⟩) hS.2.2 dX13_now_75
  by_cases c_1_4 : w = 4
  · skip
    refine lv_tableIn (off := 75) (tgt := 76) hx hb dX13_now_1 (by rw [c_1_4]; decide) (by rw [c_1_4]; decide) (by rw [c_1_4]; rfl) (by decide) ?_
    refine lv_aload_n hx hb dX13_now_76 rfl (lv_at hl 0 rfl) ?_
    refine c_r (k_V (As := []) (rest := []) F (k_X13_allDrawn x (hO)) (cwV 0 hts (lw_V q1378 q1380 qs68 q107 q1381) rfl rfl rfl (by decide +kernel) ⟨Nat.le_of_ble_eq_true rfl, Nat.le_of_ble_eq_true rfl⟩) hI hK (hw.recv hI hK (mf_main) rfl) rfl hl.1 rfl (Nat.le_of_ble_eq_true rfl) dX13_now_77 ⟨Nat.le_of_ble_eq_true rfl, Nat.le_of_ble_eq_true rfl⟩) ?_
    exact W.iret hx hb hr (fun t ht _ => ⟨rI (by first | (simp only [a_now, aR, kbI, if_neg c_1_0, if_neg c_1_1, if_neg c_1_2, if_neg c_1_3, if_pos c_1_4]; done) | (simp [a_now, aR, c_1_0, c_1_1, c_1_2, c_1_3, c_1_4]; done)), by rw [ht]; exact hw_eq hI (congrArg (cfM D L) (by first | (rw []; simp only [a_now, aM, if_neg c_1_0, if_neg c_1_1, if_neg c_1_2, if_neg c_1_3, if_pos c_1_4]; done) | (simp only [a_now, aM, ys_self, if_neg c_1_0, if_neg c_1_1, if_neg c_1_2, if_neg c_1_3, if_pos c_1_4]; done) | (rw []; simp [a_now, aM, c_1_0, c_1_1, c_1_2, c_1_3, c_1_4]; done) | (simp [a_now, aM, c_1_0, c_1_1, c_1_2, c_1_3, c_1_4, ys_self]; done))), hS.F ht⟩) hS.2.2 dX13_now_80
  by_cases c_1_5 : w = 5
  · skip
    refine lv_tableIn (off := 80) (tgt := 81) hx hb dX13_now_1 (by rw [c_1_5]; decide) (by rw [c_1_5]; decide) (by rw [c_1_5]; rfl) (by decide) ?_
    refine lv_aload_n hx hb dX13_now_81 rfl (lv_at hl 0 rfl) ?_
    refine c_r (k_V (As := []) (rest := []) F (k_X13_wisest x (hO)) (cwV 0 hts (lw_V q1382 q1384 qs69 q107 q1385) rfl rfl rfl (by decide +kernel) ⟨Nat.le_of_ble_eq_true rfl, Nat.le_of_ble_eq_true rfl⟩) hI hK (hw.recv hI hK (mf_main) rfl) rfl hl.1 rfl (Nat.le_of_ble_eq_true rfl) dX13_now_82 ⟨Nat.le_of_ble_eq_true rfl, Nat.le_of_ble_eq_true rfl⟩) ?_
    exact W.iret hx hb hr (fun t ht _ => ⟨rI (by first | (simp only [a_now, aR, kbI, if_neg c_1_0, if_neg c_1_1, if_neg c_1_2, if_neg c_1_3, if_neg c_1_4, if_pos c_1_5]; done) | (simp [a_now, aR, c_1_0, c_1_1, c_1_2, c_1_3, c_1_4, c_1_5]; done)), by rw [ht]; exact hw_eq hI (congrArg (cfM D L) (by first | (rw []; simp only [a_now, aM, if_neg c_1_0, if_neg c_1_1, if_neg c_1_2, if_neg c_1_3, if_neg c_1_4, if_pos c_1_5]; done) | (simp only [a_now, aM, ys_self, if_neg c_1_0, if_neg c_1_1, if_neg c_1_2, if_neg c_1_3, if_neg c_1_4, if_pos c_1_5]; done) | (rw []; simp [a_now, aM, c_1_0, c_1_1, c_1_2, c_1_3, c_1_4, c_1_5]; done) | (simp [a_now, aM, c_1_0, c_1_1, c_1_2, c_1_3, c_1_4, c_1_5, ys_self]; done))), hS.F ht⟩) hS.2.2 dX13_now_85
  by_cases c_1_6 : w = 6
  · skip
    refine lv_tableIn (off := 85) (tgt := 86) hx hb dX13_now_1 (by rw [c_1_6]; decide) (by rw [c_1_6]; decide) (by rw [c_1_6]; rfl) (by decide) ?_
    refine lv_aload_n hx hb dX13_now_86 rfl (lv_at hl 0 rfl) ?_
    refine lv_aload_n hx hb dX13_now_87 rfl (lv_at hl 0 rfl) ?_
    refine c_r (k_V (As := []) (rest := [.ref (L 0)]) F (k_X13_todays x (hO)) (cwV 0 hts (lw_V q1351 q1353 qs63 q107 q1354) rfl rfl rfl (by decide +kernel) ⟨Nat.le_of_ble_eq_true rfl, Nat.le_of_ble_eq_true rfl⟩) hI hK (hw.recv hI hK (mf_main) rfl) rfl hl.1 rfl (Nat.le_of_ble_eq_true rfl) dX13_now_88 ⟨Nat.le_of_ble_eq_true rfl, Nat.le_of_ble_eq_true rfl⟩) ?_
    refine c_r (k_V (As := [.int (nwI (x.1 0))]) (rest := []) F (k_X13_hearers x (hO) (nwI (x.1 0)) (hO.now)) (cwV 1 hts (lw_V q1355 q1357 qs64 q107 q1358) rfl rfl rfl (by decide +kernel) ⟨Nat.le_of_ble_eq_true rfl, Nat.le_of_ble_eq_true rfl⟩) hI hK (hw.recv hI hK (mf_main) rfl) rfl hl.1 rfl (Nat.le_of_ble_eq_true rfl) dX13_now_91 ⟨Nat.le_of_ble_eq_true rfl, Nat.le_of_ble_eq_true rfl⟩) ?_
    exact W.iret hx hb hr (fun t ht _ => ⟨rI (by first | (simp only [a_now, aR, kbI, if_neg c_1_0, if_neg c_1_1, if_neg c_1_2, if_neg c_1_3, if_neg c_1_4, if_neg c_1_5, if_pos c_1_6]; done) | (simp [a_now, aR, c_1_0, c_1_1, c_1_2, c_1_3, c_1_4, c_1_5, c_1_6]; done)), by rw [ht]; exact hw_eq hI (congrArg (cfM D L) (by first | (rw []; simp only [a_now, aM, if_neg c_1_0, if_neg c_1_1, if_neg c_1_2, if_neg c_1_3, if_neg c_1_4, if_neg c_1_5, if_pos c_1_6]; done) | (simp only [a_now, aM, ys_self, if_neg c_1_0, if_neg c_1_1, if_neg c_1_2, if_neg c_1_3, if_neg c_1_4, if_neg c_1_5, if_pos c_1_6]; done) | (rw []; simp [a_now, aM, c_1_0, c_1_1, c_1_2, c_1_3, c_1_4, c_1_5, c_1_6]; done) | (simp [a_now, aM, c_1_0, c_1_1, c_1_2, c_1_3, c_1_4, c_1_5, c_1_6, ys_self]; done))), hS.F ht⟩) hS.2.2 dX13_now_94
  refine lv_tableOut (tgt := 95) hx hb dX13_now_1 (by have n0 := lv_neT c_1_0 (a := 0) (by decide); have n1 := lv_neT c_1_1 (a := 1) (by decide); have n2 := lv_neT c_1_2 (a := 2) (by decide); have n3 := lv_neT c_1_3 (a := 3) (by decide); have n4 := lv_neT c_1_4 (a := 4) (by decide); have n5 := lv_neT c_1_5 (a := 5) (by decide); have n6 := lv_neT c_1_6 (a := 6) (by decide); omega) (by decide) ?_
  refine lv_aload_n hx hb dX13_now_95 rfl (lv_at hl 0 rfl) ?_
  refine lv_iconst (v := 0) hx hb dX13_now_96 (by decide) ?_
  refine c_m (k_V (As := [.int 0]) (rest := []) F (k_X13_finds x 0 (by decide)) (cwV 1 hts (lw_V q1238 q1240 qs47 q107 q1241) rfl rfl rfl (by decide +kernel) ⟨Nat.le_of_ble_eq_true rfl, Nat.le_of_ble_eq_true rfl⟩) hI hK (hw.recv hI hK (mf_main) rfl) rfl hl.1 rfl (Nat.le_of_ble_eq_true rfl) dX13_now_97 ⟨Nat.le_of_ble_eq_true rfl, Nat.le_of_ble_eq_true rfl⟩) hS (fun H1 locs1 hI hS => ?_)
  obtain ⟨x1, ex1⟩ : ∃ z, z = (fndM x 0) := ⟨_, rfl⟩
  rw [← ex1] at hI
  exact W.iret hx hb hr (fun t ht _ => ⟨rI (by first | (simp only [a_now, aR, kbI, if_neg c_1_0, if_neg c_1_1, if_neg c_1_2, if_neg c_1_3, if_neg c_1_4, if_neg c_1_5, if_neg c_1_6]; done) | (simp [a_now, aR, c_1_0, c_1_1, c_1_2, c_1_3, c_1_4, c_1_5, c_1_6]; done)), by rw [ht]; exact hw_eq hI (congrArg (cfM D L) (by first | (rw [ex1]; simp only [a_now, aM, if_neg c_1_0, if_neg c_1_1, if_neg c_1_2, if_neg c_1_3, if_neg c_1_4, if_neg c_1_5, if_neg c_1_6]; done) | (simp only [a_now, aM, ys_self, if_neg c_1_0, if_neg c_1_1, if_neg c_1_2, if_neg c_1_3, if_neg c_1_4, if_neg c_1_5, if_neg c_1_6]; done) | (rw [ex1]; simp [a_now, aM, c_1_0, c_1_1, c_1_2, c_1_3, c_1_4, c_1_5, c_1_6]; done) | (simp [a_now, aM, c_1_0, c_1_1, c_1_2, c_1_3, c_1_4, c_1_5, c_1_6, ys_self]; done))), hS.F ht⟩) hS.2.2 dX13_now_100
theorem k_X13_seed {l : Launch} {D : va_G} {L : Nat → Nat} {A : Nat → Prop} (x : mst) (v : Int32) : Met l yX13_seed (ws_ yX13_seed cX13_seed 2 (some .int)) ({ frames := 1, cells := 0, slots := 0, locals := 23 } : Room) (va_Pc [.ref (L 0), .int v] (pI D (cfM D L x) A)) (nQ D (cfM D L (aM x (a_seed (x.1 0) v))) A (some (.int (aR (a_seed (x.1 0) v))))) 0 0 A := by
  refine met_I (by decide) rfl (Nat.le_of_ble_eq_true rfl) ?_
  intro p e s m below meth c ls hx hb hr hml hown hts hlocks hl hI hK
  have F : CallFix p m c cX13_seed 2 s _ lw_all RX13 := ⟨hx, hb, hml, hown, hts⟩
  have hl : lv_has ls 2 [(0, .ref (L 0)), (1, .int v)] := hl
  have hS : va_S A s.heap s.heap [] := va_S.rf
  refine lv_aload_n hx hb dX13_seed_0 rfl (lv_at hl 0 rfl) ?_
  refine lv_iconst (v := 2) hx hb dX13_seed_1 (by decide) ?_
  refine lv_iload_n hx hb dX13_seed_2 rfl (lv_at hl 1 rfl) ?_
  refine c_m (k_V (As := [.int 2, .int v]) (rest := []) F (k_X13_becomes_z x v 2 rfl) (cwV 2 hts (lw_V q1234 q1236 qs46 q107 q1237) rfl rfl rfl (by decide +kernel) ⟨Nat.le_of_ble_eq_true rfl, Nat.le_of_ble_eq_true rfl⟩) hI hK (hw.recv hI hK (mf_main) rfl) rfl hl.1 rfl (Nat.le_of_ble_eq_true rfl) dX13_seed_3 ⟨Nat.le_of_ble_eq_true rfl, Nat.le_of_ble_eq_true rfl⟩) hS (fun H1 locs1 hI hS => ?_)
  obtain ⟨x1, ex1⟩ : ∃ z, z = ys x 0 (u2 (x.1 0) 1 3 v) := ⟨_, rfl⟩
  rw [← ex1] at hI
  exact W.iret hx hb hr (fun t ht _ => ⟨rI (by first | (simp only [a_seed, aR, ]; done) | (simp [a_seed, aR, ]; done)), by rw [ht]; exact hw_eq hI (congrArg (cfM D L) (ex1)), hS.F ht⟩) hS.2.2 dX13_seed_6
