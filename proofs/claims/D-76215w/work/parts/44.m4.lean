/-! LeftGlovesModel: what will be -/
theorem psn_1 (f : wd) (n c : Nat) (hc : c ≠ 2) : psn f n 1 c = f 1 c := by
  induction n with
  | zero => rfl
  | succ n ih =>
    show psw (psn f n) 1 c = _
    rw [psw_1 _ _ hc, ih]
theorem ys_20 (x : mst) : ys (ys x 2 (x.1 0)) 0 (x.1 0) = ys x 2 (x.1 0) := by
  refine Prod.ext ?_ rfl
  funext k
  by_cases h : k = 0
  · subst h; simp [ys]
  · simp [ys, h]
theorem ys_c0 (x : mst) (f g : wd) : (ys (ys x 2 g) 0 f).1 2 = g := by
  rw [ys_ne (by decide), ys_at]
theorem ys_comm (x : mst) (f g : wd) : ys (ys x 0 f) 2 g = ys (ys x 2 g) 0 f := by
  refine Prod.ext ?_ rfl
  funext k
  by_cases h : k = 0
  · subst h; simp [ys]
  · by_cases h2 : k = 2
    · subst h2; simp [ys]
    · simp [ys, h, h2]
theorem nI_m1 {i : Nat} (h : i ≤ 1000) : ¬ nI i = -1 := fun q => by
  have : ¬ nI i < 0 := nI_pos (by omega)
  exact this (by rw [q]; decide)
theorem rh_hit {P : Nat → Bool} {i : Nat} (hp : fstB P 201 0 = fstB P (201 - i) i) (hi : i ≤ 200) (h : P i = true) : rhI P = nI i := by
  rw [rhI, hp, fstB_stop h (by omega), if_pos hi]
theorem rh_miss {P : Nat → Bool} {i : Nat} (hp : fstB P 201 0 = fstB P (201 - i) i) (hi : i ≤ 200) (h2 : 200 ≤ i) (h : P i = false) : rhI P = -1 := by
  have e : i = 200 := by omega
  subst e
  rw [rhI, hp, fstB_go h (by decide)]
  rfl
theorem jm_t (x : mst) (f : wd) (v : Int32) (h : v = x.1 0 1 1 := by rfl) : jm x (ys (ys x 2 f) 0 (u2 (x.1 0) 1 1 v)) := by
  subst h
  rw [u2_self]
  exact jm_ag _ _
def akI (f : wd) (t : Int32) : Int32 := if t &&& (kbI f (allI f) ^^^ (-1)) = 0 then 1 else 0
theorem ak_0 {f : wd} {t : Int32} (h : akI f t = 0) : ¬ t &&& (kbI f (allI f) ^^^ (-1)) = 0 := by
  intro q; unfold akI at h; rw [if_pos q] at h; exact absurd h (by decide)
theorem ak_1 {f : wd} {t : Int32} (h : ¬ akI f t = 0) : t &&& (kbI f (allI f) ^^^ (-1)) = 0 := by
  by_cases q : t &&& (kbI f (allI f) ^^^ (-1)) = 0
  · exact q
  · exact absurd (by unfold akI; rw [if_neg q]) h
theorem lo_miss {f : wd} {k n : Nat} {v : Int32} (h : ∀ q, q < 10 → bcI (tbI (u2 f (2 + 2) k (nI q)) k 5 n) < v) : loI f k v n = -1 := by
  have key : ∀ j b, j ≤ 10 → loR f k v n j b = b := by
    intro j
    induction j with
    | zero => intro b _; rfl
    | succ j ih =>
      intro b hj
      rw [loR, if_pos (h j (by omega)), ih _ (by omega)]
  exact key 10 (-1) (by decide)
theorem lo_hit {f : wd} {k n i : Nat} {v : Int32} (hi : i < 10) (h : ∀ q, q < i → bcI (tbI (u2 f (2 + 2) k (nI q)) k 5 n) < v) (h2 : ¬ bcI (tbI (u2 f (2 + 2) k (nI i)) k 5 n) < v) : loI f k v n = nI i := by
  have k0 : ∀ j b, j ≤ i → loR f k v n j b = b := by
    intro j
    induction j with
    | zero => intro b _; rfl
    | succ j ih =>
      intro b hj
      rw [loR, if_pos (h j (by omega)), ih _ (by omega)]
  have key : ∀ j b, i < j → loR f k v n j b = nI i := by
    intro j
    induction j with
    | zero => intro b hj; omega
    | succ j ih =>
      intro b hj
      rw [loR]
      by_cases e : j = i
      · subst e
        rw [if_neg h2, k0 _ _ (Nat.le_refl _)]
      · exact ih _ (by omega)
  exact key 10 (-1) hi
theorem sOk_l {v : Int32} (h : sOk v) {q : Nat} (hq : q < 10) : sOk (v - (v - v / 10 * 10) + nI q) := by
  obtain ⟨a, b, c, ha, hb, hc, rfl⟩ := h
  refine ⟨a, b, q, ha, hb, hq, ?_⟩
  rw [show (10 : Int32) = nI 10 from rfl, pk_rem (by omega) (by decide) (by decide), pk_sub (Nat.mod_le _ _), nI_add]
  congr 1
  omega
theorem k_X13_behind {l : Launch} {D : va_G} {L : Nat → Nat} {A : Nat → Prop} (x : mst) (hO : wOk (x.1 0)) (hd : isN (x.1 0 1 2) 10000) (k r n : Nat) (wv : Int32) (hk : k < 8) (hr : r < 7) (hn : n ≤ 1000) (ew : wv = nI (9 + 8 * r + k)) : Met l yX13_behind (ws_ yX13_behind cX13_behind 4 (some .int)) ({ frames := 7, cells := 0, slots := 0, locals := 158 } : Room) (va_Pc [.ref (L 0), .int (nI n), .int wv] (pI D (cfM D L x) A)) (nQ D (cfM D L (ys x 0 (u2 (x.1 2) 1 1 (x.1 0 1 1)))) A (some (.int (tbI (x.1 0) k r n)))) 0 0 A := by
  refine met_I (by decide) rfl (Nat.le_of_ble_eq_true rfl) ?_
  intro p e s m below meth c ls hx hb hr hml hown hts hlocks hl hI hK
  have F : CallFix p m c cX13_behind 4 s _ lw_all RX13 := ⟨hx, hb, hml, hown, hts⟩
  have hl : lv_has ls 4 [(0, .ref (L 0)), (1, .int (nI n)), (2, .int wv)] := hl
  have hS : va_S A s.heap s.heap [] := va_S.rf
  refine lv_aload_n hx hb dX13_behind_0 rfl (lv_at hl 0 rfl) ?_
  refine lv_iload_n hx hb dX13_behind_1 rfl (lv_at hl 1 rfl) ?_
  refine c_m (k_V (As := [.int (nI n)]) (rest := []) F (k_X13_daysGo x (hO) (hd) n (by omega)) (cwV 1 hts (lw_V q1343 q1345 qs61 q107 q1346) rfl rfl rfl (by decide +kernel) ⟨Nat.le_of_ble_eq_true rfl, Nat.le_of_ble_eq_true rfl⟩) hI hK (hw.recv hI hK (mf_main) rfl) rfl hl.1 rfl (Nat.le_of_ble_eq_true rfl) dX13_behind_2 ⟨Nat.le_of_ble_eq_true rfl, Nat.le_of_ble_eq_true rfl⟩) hS (fun H1 locs1 hI hS => ?_)
  obtain ⟨x1, ex1⟩ : ∃ z, z = ys x 0 (psn (x.1 0) n) := ⟨_, rfl⟩
  rw [← ex1] at hI
  refine lv_aload_n hx hb dX13_behind_5 rfl (lv_at hl 0 rfl) ?_
  refine r_get (C := RX13) (T := TX13) (N := 18) hx hb hts in_X13 hown hK hI (mf_main) rfl 0 (by decide) (hts _ q1164) (fun _ h => h) rfl dX13_behind_6 ?_
  refine lv_iload_n hx hb dX13_behind_9 rfl (lv_at hl 2 rfl) ?_
  refine n_ialdv (k := (9 + 8 * r + k)) (v := (x1.1 0 (2 + r) k)) hx hb hK hI (mf_d) (ew) (by omega) (by decide) (md_row _ (by omega) (by omega)) dX13_behind_10 ?_
  refine lv_istore_n (lv' := [(3, .int (x1.1 0 (2 + r) k)), (0, .ref (L 0)), (1, .int (nI n)), (2, .int wv)]) hx hb dX13_behind_11 rfl hl (by decide) rfl (fun ls hl => ?_)
  refine lv_aload_n hx hb dX13_behind_12 rfl (lv_at hl 1 rfl) ?_
  refine r_get (C := RX13) (T := TX13) (N := 18) hx hb hts in_X13 hown hK hI (mf_main) rfl 2 (by decide) (hts _ q1166) (fun _ h => h) rfl dX13_behind_13 ?_
  refine lv_aload_n hx hb dX13_behind_16 rfl (lv_at hl 1 rfl) ?_
  refine r_get (C := RX13) (T := TX13) (N := 18) hx hb hts in_X13 hown hK hI (mf_main) rfl 0 (by decide) (hts _ q1164) (fun _ h => h) rfl dX13_behind_17 ?_
  refine c_m (k_SI (As := [.ref (L 3), .ref (L 1)]) (rest := []) F (k_X13_copies (cf' := cfM D L (ys x1 0 (u2 (x1.1 2) 1 1 (x1.1 0 1 1)))) mf_aside mf_d (by decide) (ms_w (w := 0) (by decide) (mu_gone _ _) (by rw [u2_at, if_pos ⟨rfl, rfl⟩]))) (va_cwS 2 hts (lw_S q1391 q1392 q107 q1393) rfl rfl rfl (by decide +kernel) ⟨Nat.le_of_ble_eq_true rfl, Nat.le_of_ble_eq_true rfl⟩) hI hK rfl hl.1 rfl (Nat.le_of_ble_eq_true rfl) dX13_behind_20 ⟨Nat.le_of_ble_eq_true rfl, Nat.le_of_ble_eq_true rfl⟩) hS (fun H1 locs1 hI hS => ?_)
  obtain ⟨x2, ex2⟩ : ∃ z, z = ys x1 0 (u2 (x1.1 2) 1 1 (x1.1 0 1 1)) := ⟨_, rfl⟩
  rw [← ex2] at hI
  refine lv_iload_n hx hb dX13_behind_23 rfl (lv_at hl 0 rfl) ?_
  exact W.iret hx hb hr (fun t ht _ => ⟨rI (by rw [ex1, ys_at]; rfl), by rw [ht]; exact hw_eq hI (congrArg (cfM D L) (by rw [ex2, ex1]; simp only [ys_at, ys_ys, ys_ne (show (2 : Nat) ≠ 0 by decide), psn_1 _ _ 1 (by decide)])), hS.F ht⟩) hS.2.2 dX13_behind_24
theorem k_X13_ahead {l : Launch} {D : va_G} {L : Nat → Nat} {A : Nat → Prop} (x : mst) (hO : wOk (x.1 0)) (hd : isN (x.1 0 1 2) 10000) (g w n : Int32) : Met l yX13_ahead (ws_ yX13_ahead cX13_ahead 4 (some .int)) ({ frames := 8, cells := 0, slots := 0, locals := 181 } : Room) (va_Pc [.ref (L 0), .int g, .int w, .int n] (pI D (cfM D L x) A)) (jMQ D L (aM x (a_ahead (x.1 0) g w n)) A (some (.int (aR (a_ahead (x.1 0) g w n))))) 0 0 A := by
  refine met_I (by decide) rfl (Nat.le_of_ble_eq_true rfl) ?_
  intro p e s m below meth c ls hx hb hr hml hown hts hlocks hl hI hK
  have F : CallFix p m c cX13_ahead 4 s _ lw_all RX13 := ⟨hx, hb, hml, hown, hts⟩
  have hl : lv_has ls 4 [(0, .ref (L 0)), (1, .int g), (2, .int w), (3, .int n)] := hl
  have hS : va_S A s.heap s.heap [] := va_S.rf
  obtain ⟨nn, hn, h8⟩ : ∃ n, x.1 0 1 0 = nI n ∧ n ≤ 8 := ⟨_, hO.n⟩
  have hN : wN (x.1 0) = nn := by unfold wN; rw [hn, nI_clamp (by omega)]
  refine lv_aload_n hx hb dX13_ahead_0 rfl (lv_at hl 0 rfl) ?_
  refine lv_iload_n hx hb dX13_ahead_1 rfl (lv_at hl 1 rfl) ?_
  refine c_r (k_V (As := [.int g]) (rest := []) F (k_X13_isGlove x g) (cwV 1 hts (lw_V q1289 q1291 qs55 q107 q1292) rfl rfl rfl (by decide +kernel) ⟨Nat.le_of_ble_eq_true rfl, Nat.le_of_ble_eq_true rfl⟩) hI hK (hw.recv hI hK (mf_main) rfl) rfl hl.1 rfl (Nat.le_of_ble_eq_true rfl) dX13_ahead_2 ⟨Nat.le_of_ble_eq_true rfl, Nat.le_of_ble_eq_true rfl⟩) ?_
  refine lv_if_eq (tgt := 37) hx hb dX13_ahead_5 (by decide) (fun c_5 => ?_) (fun c_5 => ?_)
  · skip
    refine lv_aload_n hx hb dX13_ahead_37 rfl (lv_at hl 0 rfl) ?_
    refine lv_iconst (v := 0) hx hb dX13_ahead_38 (by decide) ?_
    refine c_m (k_V (As := [.int 0]) (rest := []) F (k_X13_finds x 0 (by decide)) (cwV 1 hts (lw_V q1238 q1240 qs47 q107 q1241) rfl rfl rfl (by decide +kernel) ⟨Nat.le_of_ble_eq_true rfl, Nat.le_of_ble_eq_true rfl⟩) hI hK (hw.recv hI hK (mf_main) rfl) rfl hl.1 rfl (Nat.le_of_ble_eq_true rfl) dX13_ahead_39 ⟨Nat.le_of_ble_eq_true rfl, Nat.le_of_ble_eq_true rfl⟩) hS (fun H1 locs1 hI hS => ?_)
    obtain ⟨x1, ex1⟩ : ∃ z, z = (fndM x 0) := ⟨_, rfl⟩
    rw [← ex1] at hI
    exact W.iret hx hb hr (fun t ht _ => ⟨rI (by first | (simp [a_ahead, aR, c_5]; done)), ⟨x1, (by first | (refine jm_eq ?_; rw [ex1]; simp [a_ahead, aM, c_5]; done)), by rw [ht]; exact hI⟩, hS.F ht⟩) hS.2.2 dX13_ahead_42
  · skip
    refine lv_iload_n hx hb dX13_ahead_8 rfl (lv_at hl 2 rfl) ?_
    refine lv_i2l (v := (w : Int32).toInt64) hx hb dX13_ahead_9 rfl ?_
    refine lv_lconst (v := 1) hx hb dX13_ahead_10 (by decide) ?_
    refine lv_ldc2 (v := 6) hx hb hown (hts _ q1276) dX13_ahead_11 ?_
    refine c_r (k_S (As := [.long ((w : Int32).toInt64), .long 1, .long 6]) (rest := []) F (k_X13_in w 1 6 ((w : Int32).toInt64 : Int64) (1 : Int64) (6 : Int64) rfl (by decide) (by decide)) (va_cwS 3 hts (lw_S q1227 q1228 q107 q1229) rfl rfl rfl (by decide +kernel) ⟨Nat.le_of_ble_eq_true rfl, Nat.le_of_ble_eq_true rfl⟩) rfl hl.1 rfl (Nat.le_of_ble_eq_true rfl) dX13_ahead_14 ⟨Nat.le_of_ble_eq_true rfl, Nat.le_of_ble_eq_true rfl⟩) ?_
    refine lv_if_eq (tgt := 37) hx hb dX13_ahead_17 (by decide) (fun c_17 => ?_) (fun c_17 => ?_)
    · skip
      refine lv_aload_n hx hb dX13_ahead_37 rfl (lv_at hl 0 rfl) ?_
      refine lv_iconst (v := 0) hx hb dX13_ahead_38 (by decide) ?_
      refine c_m (k_V (As := [.int 0]) (rest := []) F (k_X13_finds x 0 (by decide)) (cwV 1 hts (lw_V q1238 q1240 qs47 q107 q1241) rfl rfl rfl (by decide +kernel) ⟨Nat.le_of_ble_eq_true rfl, Nat.le_of_ble_eq_true rfl⟩) hI hK (hw.recv hI hK (mf_main) rfl) rfl hl.1 rfl (Nat.le_of_ble_eq_true rfl) dX13_ahead_39 ⟨Nat.le_of_ble_eq_true rfl, Nat.le_of_ble_eq_true rfl⟩) hS (fun H1 locs1 hI hS => ?_)
      obtain ⟨x2, ex2⟩ : ∃ z, z = (fndM x 0) := ⟨_, rfl⟩
      rw [← ex2] at hI
      exact W.iret hx hb hr (fun t ht _ => ⟨rI (by first | (simp [a_ahead, aR, c_5, c_17]; done)), ⟨x2, (by first | (refine jm_eq ?_; rw [ex2]; simp [a_ahead, aM, c_5, c_17]; done)), by rw [ht]; exact hI⟩, hS.F ht⟩) hS.2.2 dX13_ahead_42
    · skip
      refine lv_iload_n hx hb dX13_ahead_20 rfl (lv_at hl 2 rfl) ?_
      refine lv_iconst (v := 2) hx hb dX13_ahead_21 (by decide) ?_
      refine lv_icmp_eq (tgt := 37) hx hb dX13_ahead_22 (by decide) (fun c_22 => ?_) (fun c_22 => ?_)
      · skip
        refine lv_aload_n hx hb dX13_ahead_37 rfl (lv_at hl 0 rfl) ?_
        refine lv_iconst (v := 0) hx hb dX13_ahead_38 (by decide) ?_
        refine c_m (k_V (As := [.int 0]) (rest := []) F (k_X13_finds x 0 (by decide)) (cwV 1 hts (lw_V q1238 q1240 qs47 q107 q1241) rfl rfl rfl (by decide +kernel) ⟨Nat.le_of_ble_eq_true rfl, Nat.le_of_ble_eq_true rfl⟩) hI hK (hw.recv hI hK (mf_main) rfl) rfl hl.1 rfl (Nat.le_of_ble_eq_true rfl) dX13_ahead_39 ⟨Nat.le_of_ble_eq_true rfl, Nat.le_of_ble_eq_true rfl⟩) hS (fun H1 locs1 hI hS => ?_)
        obtain ⟨x3, ex3⟩ : ∃ z, z = (fndM x 0) := ⟨_, rfl⟩
        rw [← ex3] at hI
        exact W.iret hx hb hr (fun t ht _ => ⟨rI (by first | (simp [a_ahead, aR, c_5, c_17, c_22]; done)), ⟨x3, (by first | (refine jm_eq ?_; rw [ex3]; simp [a_ahead, aM, c_5, c_17, c_22]; done)), by rw [ht]; exact hI⟩, hS.F ht⟩) hS.2.2 dX13_ahead_42
      · skip
        refine lv_iload_n hx hb dX13_ahead_25 rfl (lv_at hl 3 rfl) ?_
        refine lv_i2l (v := (n : Int32).toInt64) hx hb dX13_ahead_26 rfl ?_
        refine lv_lconst (v := 0) hx hb dX13_ahead_27 (by decide) ?_
        refine lv_ldc2 (v := 100) hx hb hown (hts _ q1390) dX13_ahead_28 ?_
        refine c_r (k_S (As := [.long ((n : Int32).toInt64), .long 0, .long 100]) (rest := []) F (k_X13_in n 0 100 ((n : Int32).toInt64 : Int64) (0 : Int64) (100 : Int64) rfl (by decide) (by decide)) (va_cwS 3 hts (lw_S q1227 q1228 q107 q1229) rfl rfl rfl (by decide +kernel) ⟨Nat.le_of_ble_eq_true rfl, Nat.le_of_ble_eq_true rfl⟩) rfl hl.1 rfl (Nat.le_of_ble_eq_true rfl) dX13_ahead_31 ⟨Nat.le_of_ble_eq_true rfl, Nat.le_of_ble_eq_true rfl⟩) ?_
        refine lv_if_ne (tgt := 43) hx hb dX13_ahead_34 (by decide) (fun c_34 => ?_) (fun c_34 => ?_)
        · skip
          obtain ⟨k, hk, eg⟩ := isGl_to hn h8 c_5
          have eg2 : g.toNatClampNeg = k := by rw [eg, nI_clamp (by omega)]
          obtain ⟨rr, hrr1, hrr, ew⟩ := inI_to1 (a := 1) (b := 6) rfl rfl (by decide) (by decide) c_17
          have ew2 : w.toNatClampNeg = rr := by rw [ew, nI_clamp (by omega)]
          obtain ⟨j, hj, en⟩ := inI_to (b := 100) rfl (by decide) c_34
          have en2 : n.toNatClampNeg = j := by rw [en, nI_clamp (by omega)]
          have hA : a_ahead (x.1 0) g w n = .inr (tbI (x.1 0) k rr j, x.1 0) := by simp only [a_ahead, if_neg c_17, if_neg c_22, if_neg c_5, if_neg c_34, eg2, ew2, en2]
          subst eg
          subst ew
          subst en
          refine lv_aload_n hx hb dX13_ahead_43 rfl (lv_at hl 0 rfl) ?_
          refine r_get (C := RX13) (T := TX13) (N := 18) hx hb hts in_X13 hown hK hI (mf_main) rfl 0 (by decide) (hts _ q1164) (fun _ h => h) rfl dX13_ahead_44 ?_
          refine lv_aload_n hx hb dX13_ahead_47 rfl (lv_at hl 0 rfl) ?_
          refine r_get (C := RX13) (T := TX13) (N := 18) hx hb hts in_X13 hown hK hI (mf_main) rfl 2 (by decide) (hts _ q1166) (fun _ h => h) rfl dX13_ahead_48 ?_
          refine c_m (k_SI (As := [.ref (L 1), .ref (L 3)]) (rest := []) F (k_X13_copies (cf' := cfM D L (ys x 2 (x.1 0))) mf_d mf_aside (by decide) (ms_wn (w := 2) (by decide) (by decide) rfl)) (va_cwS 2 hts (lw_S q1391 q1392 q107 q1393) rfl rfl rfl (by decide +kernel) ⟨Nat.le_of_ble_eq_true rfl, Nat.le_of_ble_eq_true rfl⟩) hI hK rfl hl.1 rfl (Nat.le_of_ble_eq_true rfl) dX13_ahead_51 ⟨Nat.le_of_ble_eq_true rfl, Nat.le_of_ble_eq_true rfl⟩) hS (fun H1 locs1 hI hS => ?_)
          obtain ⟨x4, ex4⟩ : ∃ z, z = ys x 2 (x.1 0) := ⟨_, rfl⟩
          rw [← ex4] at hI
          have hO_x4 : wOk (x4.1 0) := by rw [ex4, ys_ne (by decide)]; exact hO
          have hd_x4 : isN (x4.1 0 1 2) 10000 := by rw [ex4, ys_ne (by decide)]; exact hd
          refine lv_aload_n hx hb dX13_ahead_54 rfl (lv_at hl 0 rfl) ?_
          refine lv_iload_n hx hb dX13_ahead_55 rfl (lv_at hl 3 rfl) ?_
          refine lv_bipush (v := 9) hx hb dX13_ahead_56 (by decide) ?_
          refine lv_bipush (v := 8) hx hb dX13_ahead_58 (by decide) ?_
          refine lv_iload_n hx hb dX13_ahead_60 rfl (lv_at hl 2 rfl) ?_
          refine lv_imul hx hb dX13_ahead_61 ?_
          refine lv_iadd hx hb dX13_ahead_62 ?_
          refine lv_iload_n hx hb dX13_ahead_63 rfl (lv_at hl 1 rfl) ?_
          refine lv_iadd hx hb dX13_ahead_64 ?_
          refine c_m (k_V (As := [.int (nI j), .int (((9 : Int32) + ((8 : Int32) * (nI rr))) + (nI k))]) (rest := []) F (k_X13_behind x4 (hO_x4) (hd_x4) k rr j (((9 : Int32) + ((8 : Int32) * (nI rr))) + (nI k)) (by omega) (by omega) (by omega) (na_add (na_add (rfl) (na_mul (rfl) (rfl))) (rfl))) (cwV 2 hts (lw_V q1394 q1396 qs70 q107 q1397) rfl rfl rfl (by decide +kernel) ⟨Nat.le_of_ble_eq_true rfl, Nat.le_of_ble_eq_true rfl⟩) hI hK (hw.recv hI hK (mf_main) rfl) rfl hl.1 rfl (Nat.le_of_ble_eq_true rfl) dX13_ahead_65 ⟨Nat.le_of_ble_eq_true rfl, Nat.le_of_ble_eq_true rfl⟩) hS (fun H1 locs1 hI hS => ?_)
          obtain ⟨x5, ex5⟩ : ∃ z, z = ys x4 0 (u2 (x4.1 2) 1 1 (x4.1 0 1 1)) := ⟨_, rfl⟩
          rw [← ex5] at hI
          exact W.iret hx hb hr (fun t ht _ => ⟨rI (by rw [hA, ex4, ys_ne (by decide)]; rfl), ⟨x5, (by rw [hA, ex5, ex4]; simp only [ys_at, ys_ne (show (0 : Nat) ≠ 2 by decide), u2_self]; rw [aM, ys_self]; exact jm_ag _ _), by rw [ht]; exact hI⟩, hS.F ht⟩) hS.2.2 dX13_ahead_68
        · skip
          refine lv_aload_n hx hb dX13_ahead_37 rfl (lv_at hl 0 rfl) ?_
          refine lv_iconst (v := 0) hx hb dX13_ahead_38 (by decide) ?_
          refine c_m (k_V (As := [.int 0]) (rest := []) F (k_X13_finds x 0 (by decide)) (cwV 1 hts (lw_V q1238 q1240 qs47 q107 q1241) rfl rfl rfl (by decide +kernel) ⟨Nat.le_of_ble_eq_true rfl, Nat.le_of_ble_eq_true rfl⟩) hI hK (hw.recv hI hK (mf_main) rfl) rfl hl.1 rfl (Nat.le_of_ble_eq_true rfl) dX13_ahead_39 ⟨Nat.le_of_ble_eq_true rfl, Nat.le_of_ble_eq_true rfl⟩) hS (fun H1 locs1 hI hS => ?_)
          obtain ⟨x6, ex6⟩ : ∃ z, z = (fndM x 0) := ⟨_, rfl⟩
          rw [← ex6] at hI
          exact W.iret hx hb hr (fun t ht _ => ⟨rI (by first | (simp [a_ahead, aR, c_5, c_17, c_22, c_34]; done)), ⟨x6, (by first | (refine jm_eq ?_; rw [ex6]; simp [a_ahead, aM, c_5, c_17, c_22, c_34]; done)), by rw [ht]; exact hI⟩, hS.F ht⟩) hS.2.2 dX13_ahead_42
set_option maxHeartbeats 2000000 in
theorem k_X13_hears {l : Launch} {D : va_G} {L : Nat → Nat} {A : Nat → Prop} (x : mst) (hO : wOk (x.1 0)) (hd : isN (x.1 0 1 2) 10000) (g t : Int32) : Met l yX13_hears (ws_ yX13_hears cX13_hears 5 (some .int)) ({ frames := 6, cells := 0, slots := 0, locals := 136 } : Room) (va_Pc [.ref (L 0), .int g, .int t] (pI D (cfM D L x) A)) (jMQ D L (aM x (a_hears (x.1 0) g t)) A (some (.int (aR (a_hears (x.1 0) g t))))) 0 0 A := by
  refine met_I (by decide) rfl (Nat.le_of_ble_eq_true rfl) ?_
  intro p e s m below meth c ls hx hb hr hml hown hts hlocks hl hI hK
  have F : CallFix p m c cX13_hears 5 s _ lw_all RX13 := ⟨hx, hb, hml, hown, hts⟩
  have hl : lv_has ls 5 [(0, .ref (L 0)), (1, .int g), (2, .int t)] := hl
  have hS : va_S A s.heap s.heap [] := va_S.rf
  obtain ⟨nn, hn, h8⟩ : ∃ n, x.1 0 1 0 = nI n ∧ n ≤ 8 := ⟨_, hO.n⟩
  have hN : wN (x.1 0) = nn := by unfold wN; rw [hn, nI_clamp (by omega)]
  refine lv_aload_n hx hb dX13_hears_0 rfl (lv_at hl 0 rfl) ?_
  refine lv_iload_n hx hb dX13_hears_1 rfl (lv_at hl 1 rfl) ?_
  refine c_r (k_V (As := [.int g]) (rest := []) F (k_X13_isGlove x g) (cwV 1 hts (lw_V q1289 q1291 qs55 q107 q1292) rfl rfl rfl (by decide +kernel) ⟨Nat.le_of_ble_eq_true rfl, Nat.le_of_ble_eq_true rfl⟩) hI hK (hw.recv hI hK (mf_main) rfl) rfl hl.1 rfl (Nat.le_of_ble_eq_true rfl) dX13_hears_2 ⟨Nat.le_of_ble_eq_true rfl, Nat.le_of_ble_eq_true rfl⟩) ?_
  refine lv_if_eq (tgt := 15) hx hb dX13_hears_5 (by decide) (fun c_5 => ?_) (fun c_5 => ?_)
  · skip
    refine lv_aload_n hx hb dX13_hears_15 rfl (lv_at hl 0 rfl) ?_
    refine lv_iconst (v := 0) hx hb dX13_hears_16 (by decide) ?_
    refine c_m (k_V (As := [.int 0]) (rest := []) F (k_X13_finds x 0 (by decide)) (cwV 1 hts (lw_V q1238 q1240 qs47 q107 q1241) rfl rfl rfl (by decide +kernel) ⟨Nat.le_of_ble_eq_true rfl, Nat.le_of_ble_eq_true rfl⟩) hI hK (hw.recv hI hK (mf_main) rfl) rfl hl.1 rfl (Nat.le_of_ble_eq_true rfl) dX13_hears_17 ⟨Nat.le_of_ble_eq_true rfl, Nat.le_of_ble_eq_true rfl⟩) hS (fun H1 locs1 hI hS => ?_)
    obtain ⟨x1, ex1⟩ : ∃ z, z = (fndM x 0) := ⟨_, rfl⟩
    rw [← ex1] at hI
    exact W.iret hx hb hr (fun t ht _ => ⟨rI (by first | (simp [a_hears, aR, c_5]; done)), ⟨x1, (by first | (refine jm_eq ?_; rw [ex1]; simp [a_hears, aM, c_5]; done)), by rw [ht]; exact hI⟩, hS.F ht⟩) hS.2.2 dX13_hears_20
  · skip
    refine lv_iload_n hx hb dX13_hears_8 rfl (lv_at hl 2 rfl) ?_
    refine c_r (k_S (As := [.int t]) (rest := []) F (k_X13_isTopic t) (va_cwS 1 hts (lw_S q1333 q1334 q107 q1335) rfl rfl rfl (by decide +kernel) ⟨Nat.le_of_ble_eq_true rfl, Nat.le_of_ble_eq_true rfl⟩) rfl hl.1 rfl (Nat.le_of_ble_eq_true rfl) dX13_hears_9 ⟨Nat.le_of_ble_eq_true rfl, Nat.le_of_ble_eq_true rfl⟩) ?_
    refine lv_if_ne (tgt := 21) hx hb dX13_hears_12 (by decide) (fun c_12 => ?_) (fun c_12 => ?_)
    · skip
      obtain ⟨k, hk, eg⟩ := isGl_to hn h8 c_5
      have eg2 : g.toNatClampNeg = k := by rw [eg, nI_clamp (by omega)]
      subst eg
      refine lv_aload_n hx hb dX13_hears_21 rfl (lv_at hl 0 rfl) ?_
      refine r_get (C := RX13) (T := TX13) (N := 18) hx hb hts in_X13 hown hK hI (mf_main) rfl 0 (by decide) (hts _ q1164) (fun _ h => h) rfl dX13_hears_22 ?_
      refine lv_aload_n hx hb dX13_hears_25 rfl (lv_at hl 0 rfl) ?_
      refine r_get (C := RX13) (T := TX13) (N := 18) hx hb hts in_X13 hown hK hI (mf_main) rfl 2 (by decide) (hts _ q1166) (fun _ h => h) rfl dX13_hears_26 ?_
      refine c_m (k_SI (As := [.ref (L 1), .ref (L 3)]) (rest := []) F (k_X13_copies (cf' := cfM D L (ys x 2 (x.1 0))) mf_d mf_aside (by decide) (ms_wn (w := 2) (by decide) (by decide) rfl)) (va_cwS 2 hts (lw_S q1391 q1392 q107 q1393) rfl rfl rfl (by decide +kernel) ⟨Nat.le_of_ble_eq_true rfl, Nat.le_of_ble_eq_true rfl⟩) hI hK rfl hl.1 rfl (Nat.le_of_ble_eq_true rfl) dX13_hears_29 ⟨Nat.le_of_ble_eq_true rfl, Nat.le_of_ble_eq_true rfl⟩) hS (fun H1 locs1 hI hS => ?_)
      obtain ⟨x2, ex2⟩ : ∃ z, z = ys x 2 (x.1 0) := ⟨_, rfl⟩
      rw [← ex2] at hI
      refine lv_iconst (v := 0) hx hb dX13_hears_32 (by decide) ?_
      refine lv_istore_n (lv' := [(3, .int 0), (0, .ref (L 0)), (1, .int (nI k)), (2, .int t)]) hx hb dX13_hears_33 rfl hl (by decide) rfl (fun ls hl => ?_)
      have lp34 : ∀ (fuel : Nat) (i : Nat), (i ≤ 200) → (fstB (p_hears (x.1 0) k t) 201 0 = fstB (p_hears (x.1 0) k t) (201 - i) i) → 200 - i < fuel → ∀ (v3 : Int32), v3 = nI i → ∀ (xc34 : mst), xc34 = ys (ys x 2 (x.1 0)) 0 (psn (x.1 0) i) → ∀ (H : Heap) (locs : List Loc), hw D (cfM D L xc34) A H → va_S A s.heap H locs → ∀ (ls : Array Slot), lv_has ls 5 [(0, .ref (L 0)), (1, .int (nI k)), (2, .int t), (3, .int v3)] → W p l e ({ frames := 6, cells := 0, slots := 0, locals := 136 } : Room) s m ([.ref (L 0), .int (nI k), .int t] : List Value).toArray below meth c H locs 0 0 (MQ below (jMQ D L (aM x (a_hears (x.1 0) (nI k) t)) A (some (.int (aR (a_hears (x.1 0) (nI k) t))))) ([.ref (L 0), .int (nI k), .int t] : List Value).toArray s 0 0 A) (F0 m 34 ls []) := by
        intro fuel
        induction fuel with
        | zero => intro i hi hp hf; exact absurd hf (Nat.not_lt_zero _)
        | succ fuel ih34 =>
          intro i hi hp hf34 v3 e3  xc34 exc34 H locs hI hS ls hl
          subst e3
          have hO_xc34 : wOk (xc34.1 0) := by rw [exc34, ys_at]; exact wOk_psn hO hd i (by omega)
          have hd_xc34 : isN (xc34.1 0 1 2) 99999 := by rw [exc34, ys_at]; exact isN_psn hd (by omega)
          have hf : xc34.1 0 = psn (x.1 0) i := by rw [exc34, ys_at]
          refine lv_iload_n hx hb dX13_hears_34 rfl (lv_at hl 3 rfl) ?_
          refine lv_sipush (v := 200) hx hb dX13_hears_35 (by decide) ?_
          refine lv_icmp_ge (tgt := 64) hx hb dX13_hears_38 (by decide) (fun c_38 => ?_) (fun c_38 => ?_)
          · skip
            have c_38 : 200 ≤ i := (nle (a := 200) (b := i) (rfl) (rfl) (by omega) (by omega)).mp c_38
            refine lv_aload_n hx hb dX13_hears_64 rfl (lv_at hl 0 rfl) ?_
            refine lv_iload_n hx hb dX13_hears_65 rfl (lv_at hl 1 rfl) ?_
            refine lv_iconst (v := 3) hx hb dX13_hears_66 (by decide) ?_
            refine c_r (k_V (As := [.int (nI k), .int 3]) (rest := []) F (k_X13_its xc34 (nI k) 3 k 3 (by omega) (by omega) rfl rfl) (cwV 2 hts (lw_V q1256 q1258 qs49 q107 q1259) rfl rfl rfl (by decide +kernel) ⟨Nat.le_of_ble_eq_true rfl, Nat.le_of_ble_eq_true rfl⟩) hI hK (hw.recv hI hK (mf_main) rfl) rfl hl.1 rfl (Nat.le_of_ble_eq_true rfl) dX13_hears_67 ⟨Nat.le_of_ble_eq_true rfl, Nat.le_of_ble_eq_true rfl⟩) ?_
            refine lv_iload_n hx hb dX13_hears_70 rfl (lv_at hl 2 rfl) ?_
            refine lv_ishr hx hb dX13_hears_71 ?_
            refine lv_iconst (v := 1) hx hb dX13_hears_72 (by decide) ?_
            refine lv_iand hx hb dX13_hears_73 ?_
            refine lv_iconst (v := 1) hx hb dX13_hears_74 (by decide) ?_
            refine lv_icmp_ne (tgt := 82) hx hb dX13_hears_75 (by decide) (fun c_75 => ?_) (fun c_75 => ?_)
            · skip
              refine lv_iconst (v := 0) hx hb dX13_hears_82 (by decide) ?_
              refine lv_istore (lv' := [(4, .int 0), (0, .ref (L 0)), (1, .int (nI k)), (2, .int t), (3, .int (nI i))]) hx hb dX13_hears_83 hl (by decide) rfl (fun ls hl => ?_)
              refine lv_aload_n hx hb dX13_hears_85 rfl (lv_at hl 1 rfl) ?_
              refine r_get (C := RX13) (T := TX13) (N := 18) hx hb hts in_X13 hown hK hI (mf_main) rfl 2 (by decide) (hts _ q1166) (fun _ h => h) rfl dX13_hears_86 ?_
              refine lv_aload_n hx hb dX13_hears_89 rfl (lv_at hl 1 rfl) ?_
              refine r_get (C := RX13) (T := TX13) (N := 18) hx hb hts in_X13 hown hK hI (mf_main) rfl 0 (by decide) (hts _ q1164) (fun _ h => h) rfl dX13_hears_90 ?_
              refine c_m (k_SI (As := [.ref (L 3), .ref (L 1)]) (rest := []) F (k_X13_copies (cf' := cfM D L (ys xc34 0 (u2 (xc34.1 2) 1 1 (xc34.1 0 1 1)))) mf_aside mf_d (by decide) (ms_w (w := 0) (by decide) (mu_gone _ _) (by rw [u2_at, if_pos ⟨rfl, rfl⟩]))) (va_cwS 2 hts (lw_S q1391 q1392 q107 q1393) rfl rfl rfl (by decide +kernel) ⟨Nat.le_of_ble_eq_true rfl, Nat.le_of_ble_eq_true rfl⟩) hI hK rfl hl.1 rfl (Nat.le_of_ble_eq_true rfl) dX13_hears_93 ⟨Nat.le_of_ble_eq_true rfl, Nat.le_of_ble_eq_true rfl⟩) hS (fun H1 locs1 hI hS => ?_)
              obtain ⟨x3, ex3⟩ : ∃ z, z = ys xc34 0 (u2 (xc34.1 2) 1 1 (xc34.1 0 1 1)) := ⟨_, rfl⟩
              rw [← ex3] at hI
              refine lv_iload hx hb dX13_hears_96 (lv_at hl 0 rfl) ?_
              refine lv_if_eq (tgt := 105) hx hb dX13_hears_98 (by decide) (fun c_98 => ?_) (fun c_98 => ?_)
              · skip
                have c_98 : 0 = 0 := (neq (a := 0) (b := 0) (rfl) (rfl) (by omega) (by omega)).mp c_98
                have hrr := rh_miss hp hi (by first | omega | (exfalso; rw [hf] at c_51 c_75; exact c_75 ((and1_01 _).resolve_left c_51))) (by rw [hf] at c_75; exact decide_eq_false (fun q => c_75 (hs_1.mp q)))
                refine lv_aload_n hx hb dX13_hears_105 rfl (lv_at hl 1 rfl) ?_
                refine lv_iconst (v := 3) hx hb dX13_hears_106 (by decide) ?_
                refine c_m (k_V (As := [.int 3]) (rest := []) F (k_X13_finds x3 3 (by decide)) (cwV 1 hts (lw_V q1238 q1240 qs47 q107 q1241) rfl rfl rfl (by decide +kernel) ⟨Nat.le_of_ble_eq_true rfl, Nat.le_of_ble_eq_true rfl⟩) hI hK (hw.recv hI hK (mf_main) rfl) rfl hl.1 rfl (Nat.le_of_ble_eq_true rfl) dX13_hears_107 ⟨Nat.le_of_ble_eq_true rfl, Nat.le_of_ble_eq_true rfl⟩) hS (fun H1 locs1 hI hS => ?_)
                obtain ⟨x4, ex4⟩ : ∃ z, z = (fndM x3 3) := ⟨_, rfl⟩
                rw [← ex4] at hI
                exact W.iret hx hb hr (fun t ht _ => ⟨rI (by first | (rw [a_hears, if_neg c_5, if_neg c_12, eg2, aR_orN, orI, hrr]; rfl) | (rw [a_hears, if_neg c_5, if_neg c_12, eg2, aR_orN, hrr, orI, if_neg (nI_m1 (by omega))])), ⟨x4, (by first | (rw [a_hears, if_neg c_5, if_neg c_12, eg2, aM_orN, orM, hrr, if_pos rfl, ex4]; refine jm_fnd ?_ 3; rw [ex3, exc34]; simp only [ys_at, ys_ys, ys_c0]; exact jm_t _ _ _ (psn_1 _ _ 1 (by decide))) | (rw [a_hears, if_neg c_5, if_neg c_12, eg2, aM_orN, hrr, orM, if_neg (nI_m1 (by omega))]; rw [ex4, ex3, exc34]; simp only [ys_at, ys_ys, ys_c0]; exact jm_t _ _ _ (psn_1 _ _ 1 (by decide)))), by rw [ht]; exact hI⟩, hS.F ht⟩) hS.2.2 dX13_hears_110
              · skip
                have c_98 : ¬ 0 = 0 := fun z => c_98 ((neq (a := 0) (b := 0) (rfl) (rfl) (by omega) (by omega)).mpr z)
                exact absurd (by decide) c_98
            · skip
              refine lv_iconst (v := 1) hx hb dX13_hears_78 (by decide) ?_
              refine lv_goto (tgt := 83) hx hb dX13_hears_79 (by decide) ?_
              refine lv_istore (lv' := [(4, .int 1), (0, .ref (L 0)), (1, .int (nI k)), (2, .int t), (3, .int (nI i))]) hx hb dX13_hears_83 hl (by decide) rfl (fun ls hl => ?_)
              refine lv_aload_n hx hb dX13_hears_85 rfl (lv_at hl 1 rfl) ?_
              refine r_get (C := RX13) (T := TX13) (N := 18) hx hb hts in_X13 hown hK hI (mf_main) rfl 2 (by decide) (hts _ q1166) (fun _ h => h) rfl dX13_hears_86 ?_
              refine lv_aload_n hx hb dX13_hears_89 rfl (lv_at hl 1 rfl) ?_
              refine r_get (C := RX13) (T := TX13) (N := 18) hx hb hts in_X13 hown hK hI (mf_main) rfl 0 (by decide) (hts _ q1164) (fun _ h => h) rfl dX13_hears_90 ?_
              refine c_m (k_SI (As := [.ref (L 3), .ref (L 1)]) (rest := []) F (k_X13_copies (cf' := cfM D L (ys xc34 0 (u2 (xc34.1 2) 1 1 (xc34.1 0 1 1)))) mf_aside mf_d (by decide) (ms_w (w := 0) (by decide) (mu_gone _ _) (by rw [u2_at, if_pos ⟨rfl, rfl⟩]))) (va_cwS 2 hts (lw_S q1391 q1392 q107 q1393) rfl rfl rfl (by decide +kernel) ⟨Nat.le_of_ble_eq_true rfl, Nat.le_of_ble_eq_true rfl⟩) hI hK rfl hl.1 rfl (Nat.le_of_ble_eq_true rfl) dX13_hears_93 ⟨Nat.le_of_ble_eq_true rfl, Nat.le_of_ble_eq_true rfl⟩) hS (fun H1 locs1 hI hS => ?_)
              obtain ⟨x5, ex5⟩ : ∃ z, z = ys xc34 0 (u2 (xc34.1 2) 1 1 (xc34.1 0 1 1)) := ⟨_, rfl⟩
              rw [← ex5] at hI
              refine lv_iload hx hb dX13_hears_96 (lv_at hl 0 rfl) ?_
              refine lv_if_eq (tgt := 105) hx hb dX13_hears_98 (by decide) (fun c_98 => ?_) (fun c_98 => ?_)
              · skip
                have c_98 : 1 = 0 := (neq (a := 1) (b := 0) (rfl) (rfl) (by omega) (by omega)).mp c_98
                exact absurd c_98 (by decide)
              · skip
                have c_98 : ¬ 1 = 0 := fun z => c_98 ((neq (a := 1) (b := 0) (rfl) (rfl) (by omega) (by omega)).mpr z)
                have hrr := rh_hit hp hi (by rw [hf] at c_75; exact decide_eq_true (hs_1.mpr c_75))
                refine lv_iload_n hx hb dX13_hears_101 rfl (lv_at hl 4 rfl) ?_
                refine lv_goto (tgt := 110) hx hb dX13_hears_102 (by decide) ?_
                exact W.iret hx hb hr (fun t ht _ => ⟨rI (by first | (rw [a_hears, if_neg c_5, if_neg c_12, eg2, aR_orN, orI, hrr]; rfl) | (rw [a_hears, if_neg c_5, if_neg c_12, eg2, aR_orN, hrr, orI, if_neg (nI_m1 (by omega))])), ⟨x5, (by first | (rw [a_hears, if_neg c_5, if_neg c_12, eg2, aM_orN, orM, hrr, if_pos rfl, ex5]; refine jm_fnd ?_ 3; rw [exc34]; simp only [ys_at, ys_ys, ys_c0]; exact jm_t _ _ _ (psn_1 _ _ 1 (by decide))) | (rw [a_hears, if_neg c_5, if_neg c_12, eg2, aM_orN, hrr, orM, if_neg (nI_m1 (by omega))]; rw [ex5, exc34]; simp only [ys_at, ys_ys, ys_c0]; exact jm_t _ _ _ (psn_1 _ _ 1 (by decide)))), by rw [ht]; exact hI⟩, hS.F ht⟩) hS.2.2 dX13_hears_110
          · skip
            have c_38 : ¬ 200 ≤ i := fun z => c_38 ((nle (a := 200) (b := i) (rfl) (rfl) (by omega) (by omega)).mpr z)
            refine lv_aload_n hx hb dX13_hears_41 rfl (lv_at hl 0 rfl) ?_
            refine lv_iload_n hx hb dX13_hears_42 rfl (lv_at hl 1 rfl) ?_
            refine lv_iconst (v := 3) hx hb dX13_hears_43 (by decide) ?_
            refine c_r (k_V (As := [.int (nI k), .int 3]) (rest := []) F (k_X13_its xc34 (nI k) 3 k 3 (by omega) (by omega) rfl rfl) (cwV 2 hts (lw_V q1256 q1258 qs49 q107 q1259) rfl rfl rfl (by decide +kernel) ⟨Nat.le_of_ble_eq_true rfl, Nat.le_of_ble_eq_true rfl⟩) hI hK (hw.recv hI hK (mf_main) rfl) rfl hl.1 rfl (Nat.le_of_ble_eq_true rfl) dX13_hears_44 ⟨Nat.le_of_ble_eq_true rfl, Nat.le_of_ble_eq_true rfl⟩) ?_
            refine lv_iload_n hx hb dX13_hears_47 rfl (lv_at hl 2 rfl) ?_
            refine lv_ishr hx hb dX13_hears_48 ?_
            refine lv_iconst (v := 1) hx hb dX13_hears_49 (by decide) ?_
            refine lv_iand hx hb dX13_hears_50 ?_
            refine lv_if_ne (tgt := 64) hx hb dX13_hears_51 (by decide) (fun c_51 => ?_) (fun c_51 => ?_)
            · skip
              refine lv_aload_n hx hb dX13_hears_64 rfl (lv_at hl 0 rfl) ?_
              refine lv_iload_n hx hb dX13_hears_65 rfl (lv_at hl 1 rfl) ?_
              refine lv_iconst (v := 3) hx hb dX13_hears_66 (by decide) ?_
              refine c_r (k_V (As := [.int (nI k), .int 3]) (rest := []) F (k_X13_its xc34 (nI k) 3 k 3 (by omega) (by omega) rfl rfl) (cwV 2 hts (lw_V q1256 q1258 qs49 q107 q1259) rfl rfl rfl (by decide +kernel) ⟨Nat.le_of_ble_eq_true rfl, Nat.le_of_ble_eq_true rfl⟩) hI hK (hw.recv hI hK (mf_main) rfl) rfl hl.1 rfl (Nat.le_of_ble_eq_true rfl) dX13_hears_67 ⟨Nat.le_of_ble_eq_true rfl, Nat.le_of_ble_eq_true rfl⟩) ?_
              refine lv_iload_n hx hb dX13_hears_70 rfl (lv_at hl 2 rfl) ?_
              refine lv_ishr hx hb dX13_hears_71 ?_
              refine lv_iconst (v := 1) hx hb dX13_hears_72 (by decide) ?_
              refine lv_iand hx hb dX13_hears_73 ?_
              refine lv_iconst (v := 1) hx hb dX13_hears_74 (by decide) ?_
              refine lv_icmp_ne (tgt := 82) hx hb dX13_hears_75 (by decide) (fun c_75 => ?_) (fun c_75 => ?_)
              · skip
                refine lv_iconst (v := 0) hx hb dX13_hears_82 (by decide) ?_
                refine lv_istore (lv' := [(4, .int 0), (0, .ref (L 0)), (1, .int (nI k)), (2, .int t), (3, .int (nI i))]) hx hb dX13_hears_83 hl (by decide) rfl (fun ls hl => ?_)
                refine lv_aload_n hx hb dX13_hears_85 rfl (lv_at hl 1 rfl) ?_
                refine r_get (C := RX13) (T := TX13) (N := 18) hx hb hts in_X13 hown hK hI (mf_main) rfl 2 (by decide) (hts _ q1166) (fun _ h => h) rfl dX13_hears_86 ?_
                refine lv_aload_n hx hb dX13_hears_89 rfl (lv_at hl 1 rfl) ?_
                refine r_get (C := RX13) (T := TX13) (N := 18) hx hb hts in_X13 hown hK hI (mf_main) rfl 0 (by decide) (hts _ q1164) (fun _ h => h) rfl dX13_hears_90 ?_
                refine c_m (k_SI (As := [.ref (L 3), .ref (L 1)]) (rest := []) F (k_X13_copies (cf' := cfM D L (ys xc34 0 (u2 (xc34.1 2) 1 1 (xc34.1 0 1 1)))) mf_aside mf_d (by decide) (ms_w (w := 0) (by decide) (mu_gone _ _) (by rw [u2_at, if_pos ⟨rfl, rfl⟩]))) (va_cwS 2 hts (lw_S q1391 q1392 q107 q1393) rfl rfl rfl (by decide +kernel) ⟨Nat.le_of_ble_eq_true rfl, Nat.le_of_ble_eq_true rfl⟩) hI hK rfl hl.1 rfl (Nat.le_of_ble_eq_true rfl) dX13_hears_93 ⟨Nat.le_of_ble_eq_true rfl, Nat.le_of_ble_eq_true rfl⟩) hS (fun H1 locs1 hI hS => ?_)
                obtain ⟨x6, ex6⟩ : ∃ z, z = ys xc34 0 (u2 (xc34.1 2) 1 1 (xc34.1 0 1 1)) := ⟨_, rfl⟩
                rw [← ex6] at hI
                refine lv_iload hx hb dX13_hears_96 (lv_at hl 0 rfl) ?_
                refine lv_if_eq (tgt := 105) hx hb dX13_hears_98 (by decide) (fun c_98 => ?_) (fun c_98 => ?_)
                · skip
                  have c_98 : 0 = 0 := (neq (a := 0) (b := 0) (rfl) (rfl) (by omega) (by omega)).mp c_98
                  have hrr := rh_miss hp hi (by first | omega | (exfalso; rw [hf] at c_51 c_75; exact c_75 ((and1_01 _).resolve_left c_51))) (by rw [hf] at c_75; exact decide_eq_false (fun q => c_75 (hs_1.mp q)))
                  refine lv_aload_n hx hb dX13_hears_105 rfl (lv_at hl 1 rfl) ?_
                  refine lv_iconst (v := 3) hx hb dX13_hears_106 (by decide) ?_
                  refine c_m (k_V (As := [.int 3]) (rest := []) F (k_X13_finds x6 3 (by decide)) (cwV 1 hts (lw_V q1238 q1240 qs47 q107 q1241) rfl rfl rfl (by decide +kernel) ⟨Nat.le_of_ble_eq_true rfl, Nat.le_of_ble_eq_true rfl⟩) hI hK (hw.recv hI hK (mf_main) rfl) rfl hl.1 rfl (Nat.le_of_ble_eq_true rfl) dX13_hears_107 ⟨Nat.le_of_ble_eq_true rfl, Nat.le_of_ble_eq_true rfl⟩) hS (fun H1 locs1 hI hS => ?_)
                  obtain ⟨x7, ex7⟩ : ∃ z, z = (fndM x6 3) := ⟨_, rfl⟩
                  rw [← ex7] at hI
                  exact W.iret hx hb hr (fun t ht _ => ⟨rI (by first | (rw [a_hears, if_neg c_5, if_neg c_12, eg2, aR_orN, orI, hrr]; rfl) | (rw [a_hears, if_neg c_5, if_neg c_12, eg2, aR_orN, hrr, orI, if_neg (nI_m1 (by omega))])), ⟨x7, (by first | (rw [a_hears, if_neg c_5, if_neg c_12, eg2, aM_orN, orM, hrr, if_pos rfl, ex7]; refine jm_fnd ?_ 3; rw [ex6, exc34]; simp only [ys_at, ys_ys, ys_c0]; exact jm_t _ _ _ (psn_1 _ _ 1 (by decide))) | (rw [a_hears, if_neg c_5, if_neg c_12, eg2, aM_orN, hrr, orM, if_neg (nI_m1 (by omega))]; rw [ex7, ex6, exc34]; simp only [ys_at, ys_ys, ys_c0]; exact jm_t _ _ _ (psn_1 _ _ 1 (by decide)))), by rw [ht]; exact hI⟩, hS.F ht⟩) hS.2.2 dX13_hears_110
                · skip
                  have c_98 : ¬ 0 = 0 := fun z => c_98 ((neq (a := 0) (b := 0) (rfl) (rfl) (by omega) (by omega)).mpr z)
                  exact absurd (by decide) c_98
              · skip
                refine lv_iconst (v := 1) hx hb dX13_hears_78 (by decide) ?_
                refine lv_goto (tgt := 83) hx hb dX13_hears_79 (by decide) ?_
                refine lv_istore (lv' := [(4, .int 1), (0, .ref (L 0)), (1, .int (nI k)), (2, .int t), (3, .int (nI i))]) hx hb dX13_hears_83 hl (by decide) rfl (fun ls hl => ?_)
                refine lv_aload_n hx hb dX13_hears_85 rfl (lv_at hl 1 rfl) ?_
                refine r_get (C := RX13) (T := TX13) (N := 18) hx hb hts in_X13 hown hK hI (mf_main) rfl 2 (by decide) (hts _ q1166) (fun _ h => h) rfl dX13_hears_86 ?_
                refine lv_aload_n hx hb dX13_hears_89 rfl (lv_at hl 1 rfl) ?_
                refine r_get (C := RX13) (T := TX13) (N := 18) hx hb hts in_X13 hown hK hI (mf_main) rfl 0 (by decide) (hts _ q1164) (fun _ h => h) rfl dX13_hears_90 ?_
                refine c_m (k_SI (As := [.ref (L 3), .ref (L 1)]) (rest := []) F (k_X13_copies (cf' := cfM D L (ys xc34 0 (u2 (xc34.1 2) 1 1 (xc34.1 0 1 1)))) mf_aside mf_d (by decide) (ms_w (w := 0) (by decide) (mu_gone _ _) (by rw [u2_at, if_pos ⟨rfl, rfl⟩]))) (va_cwS 2 hts (lw_S q1391 q1392 q107 q1393) rfl rfl rfl (by decide +kernel) ⟨Nat.le_of_ble_eq_true rfl, Nat.le_of_ble_eq_true rfl⟩) hI hK rfl hl.1 rfl (Nat.le_of_ble_eq_true rfl) dX13_hears_93 ⟨Nat.le_of_ble_eq_true rfl, Nat.le_of_ble_eq_true rfl⟩) hS (fun H1 locs1 hI hS => ?_)
                obtain ⟨x8, ex8⟩ : ∃ z, z = ys xc34 0 (u2 (xc34.1 2) 1 1 (xc34.1 0 1 1)) := ⟨_, rfl⟩
                rw [← ex8] at hI
                refine lv_iload hx hb dX13_hears_96 (lv_at hl 0 rfl) ?_
                refine lv_if_eq (tgt := 105) hx hb dX13_hears_98 (by decide) (fun c_98 => ?_) (fun c_98 => ?_)
                · skip
                  have c_98 : 1 = 0 := (neq (a := 1) (b := 0) (rfl) (rfl) (by omega) (by omega)).mp c_98
                  exact absurd c_98 (by decide)
                · skip
                  have c_98 : ¬ 1 = 0 := fun z => c_98 ((neq (a := 1) (b := 0) (rfl) (rfl) (by omega) (by omega)).mpr z)
                  have hrr := rh_hit hp hi (by rw [hf] at c_75; exact decide_eq_true (hs_1.mpr c_75))
                  refine lv_iload_n hx hb dX13_hears_101 rfl (lv_at hl 4 rfl) ?_
                  refine lv_goto (tgt := 110) hx hb dX13_hears_102 (by decide) ?_
                  exact W.iret hx hb hr (fun t ht _ => ⟨rI (by first | (rw [a_hears, if_neg c_5, if_neg c_12, eg2, aR_orN, orI, hrr]; rfl) | (rw [a_hears, if_neg c_5, if_neg c_12, eg2, aR_orN, hrr, orI, if_neg (nI_m1 (by omega))])), ⟨x8, (by first | (rw [a_hears, if_neg c_5, if_neg c_12, eg2, aM_orN, orM, hrr, if_pos rfl, ex8]; refine jm_fnd ?_ 3; rw [exc34]; simp only [ys_at, ys_ys, ys_c0]; exact jm_t _ _ _ (psn_1 _ _ 1 (by decide))) | (rw [a_hears, if_neg c_5, if_neg c_12, eg2, aM_orN, hrr, orM, if_neg (nI_m1 (by omega))]; rw [ex8, exc34]; simp only [ys_at, ys_ys, ys_c0]; exact jm_t _ _ _ (psn_1 _ _ 1 (by decide)))), by rw [ht]; exact hI⟩, hS.F ht⟩) hS.2.2 dX13_hears_110
            · skip
              refine lv_aload_n hx hb dX13_hears_54 rfl (lv_at hl 0 rfl) ?_
              refine c_m (k_V (As := []) (rest := []) F (k_X13_dayGoes xc34 (hO_xc34) (hd_xc34)) (cwV 0 hts (lw_V q1347 q1349 qs62 q107 q1350) rfl rfl rfl (by decide +kernel) ⟨Nat.le_of_ble_eq_true rfl, Nat.le_of_ble_eq_true rfl⟩) hI hK (hw.recv hI hK (mf_main) rfl) rfl hl.1 rfl (Nat.le_of_ble_eq_true rfl) dX13_hears_55 ⟨Nat.le_of_ble_eq_true rfl, Nat.le_of_ble_eq_true rfl⟩) hS (fun H1 locs1 hI hS => ?_)
              obtain ⟨x9, ex9⟩ : ∃ z, z = ys xc34 0 (psw (xc34.1 0)) := ⟨_, rfl⟩
              rw [← ex9] at hI
              refine lv_iinc (v := (nI (i + 1))) (lv' := [(3, .int (nI (i + 1))), (0, .ref (L 0)), (1, .int (nI k)), (2, .int t)]) hx hb dX13_hears_58 hl (k := 3) rfl (nI_1 _) (by decide) rfl (fun ls hl => ?_)
              refine lv_goto (tgt := 34) hx hb dX13_hears_61 (by decide) ?_
              exact ih34 (i + 1) (by omega) (by rw [hp, fstB_go (by rw [hf] at c_51; exact decide_eq_false (fun q => q (hs_0.mpr c_51))) (by omega)]; rfl) (by omega) (nI (i + 1)) (rfl) x9 (by rw [ex9, exc34]; simp only [ys_at, ys_ys]; rfl) _ _ hI hS ls (lv_sub hl [1, 2, 3, 0] rfl)
      exact lp34 (_ + 1) (0) (by decide) (rfl) (Nat.lt_succ_self _) 0 (rfl) x2 (by rw [ex2]; exact (ys_20 x).symm) _ _ hI hS ls (lv_sub hl [1, 2, 3, 0] rfl)
    · skip
      refine lv_aload_n hx hb dX13_hears_15 rfl (lv_at hl 0 rfl) ?_
      refine lv_iconst (v := 0) hx hb dX13_hears_16 (by decide) ?_
      refine c_m (k_V (As := [.int 0]) (rest := []) F (k_X13_finds x 0 (by decide)) (cwV 1 hts (lw_V q1238 q1240 qs47 q107 q1241) rfl rfl rfl (by decide +kernel) ⟨Nat.le_of_ble_eq_true rfl, Nat.le_of_ble_eq_true rfl⟩) hI hK (hw.recv hI hK (mf_main) rfl) rfl hl.1 rfl (Nat.le_of_ble_eq_true rfl) dX13_hears_17 ⟨Nat.le_of_ble_eq_true rfl, Nat.le_of_ble_eq_true rfl⟩) hS (fun H1 locs1 hI hS => ?_)
      obtain ⟨x10, ex10⟩ : ∃ z, z = (fndM x 0) := ⟨_, rfl⟩
      rw [← ex10] at hI
      exact W.iret hx hb hr (fun t ht _ => ⟨rI (by first | (simp [a_hears, aR, c_5, c_12]; done)), ⟨x10, (by first | (refine jm_eq ?_; rw [ex10]; simp [a_hears, aM, c_5, c_12]; done)), by rw [ht]; exact hI⟩, hS.F ht⟩) hS.2.2 dX13_hears_20
set_option maxHeartbeats 2000000 in
theorem k_X13_wise {l : Launch} {D : va_G} {L : Nat → Nat} {A : Nat → Prop} (x : mst) (hO : wOk (x.1 0)) (hd : isN (x.1 0 1 2) 10000) (g v : Int32) : Met l yX13_wise (ws_ yX13_wise cX13_wise 5 (some .int)) ({ frames := 6, cells := 0, slots := 0, locals := 136 } : Room) (va_Pc [.ref (L 0), .int g, .int v] (pI D (cfM D L x) A)) (jMQ D L (aM x (a_wise (x.1 0) g v)) A (some (.int (aR (a_wise (x.1 0) g v))))) 0 0 A := by
  refine met_I (by decide) rfl (Nat.le_of_ble_eq_true rfl) ?_
  intro p e s m below meth c ls hx hb hr hml hown hts hlocks hl hI hK
  have F : CallFix p m c cX13_wise 5 s _ lw_all RX13 := ⟨hx, hb, hml, hown, hts⟩
  have hl : lv_has ls 5 [(0, .ref (L 0)), (1, .int g), (2, .int v)] := hl
  have hS : va_S A s.heap s.heap [] := va_S.rf
  obtain ⟨nn, hn, h8⟩ : ∃ n, x.1 0 1 0 = nI n ∧ n ≤ 8 := ⟨_, hO.n⟩
  have hN : wN (x.1 0) = nn := by unfold wN; rw [hn, nI_clamp (by omega)]
  refine lv_aload_n hx hb dX13_wise_0 rfl (lv_at hl 0 rfl) ?_
  refine lv_iload_n hx hb dX13_wise_1 rfl (lv_at hl 1 rfl) ?_
  refine c_r (k_V (As := [.int g]) (rest := []) F (k_X13_isGlove x g) (cwV 1 hts (lw_V q1289 q1291 qs55 q107 q1292) rfl rfl rfl (by decide +kernel) ⟨Nat.le_of_ble_eq_true rfl, Nat.le_of_ble_eq_true rfl⟩) hI hK (hw.recv hI hK (mf_main) rfl) rfl hl.1 rfl (Nat.le_of_ble_eq_true rfl) dX13_wise_2 ⟨Nat.le_of_ble_eq_true rfl, Nat.le_of_ble_eq_true rfl⟩) ?_
  refine lv_if_eq (tgt := 20) hx hb dX13_wise_5 (by decide) (fun c_5 => ?_) (fun c_5 => ?_)
  · skip
    refine lv_aload_n hx hb dX13_wise_20 rfl (lv_at hl 0 rfl) ?_
    refine lv_iconst (v := 0) hx hb dX13_wise_21 (by decide) ?_
    refine c_m (k_V (As := [.int 0]) (rest := []) F (k_X13_finds x 0 (by decide)) (cwV 1 hts (lw_V q1238 q1240 qs47 q107 q1241) rfl rfl rfl (by decide +kernel) ⟨Nat.le_of_ble_eq_true rfl, Nat.le_of_ble_eq_true rfl⟩) hI hK (hw.recv hI hK (mf_main) rfl) rfl hl.1 rfl (Nat.le_of_ble_eq_true rfl) dX13_wise_22 ⟨Nat.le_of_ble_eq_true rfl, Nat.le_of_ble_eq_true rfl⟩) hS (fun H1 locs1 hI hS => ?_)
    obtain ⟨x1, ex1⟩ : ∃ z, z = (fndM x 0) := ⟨_, rfl⟩
    rw [← ex1] at hI
    exact W.iret hx hb hr (fun t ht _ => ⟨rI (by first | (simp [a_wise, aR, c_5]; done)), ⟨x1, (by first | (refine jm_eq ?_; rw [ex1]; simp [a_wise, aM, c_5]; done)), by rw [ht]; exact hI⟩, hS.F ht⟩) hS.2.2 dX13_wise_25
  · skip
    refine lv_iload_n hx hb dX13_wise_8 rfl (lv_at hl 2 rfl) ?_
    refine lv_i2l (v := (v : Int32).toInt64) hx hb dX13_wise_9 rfl ?_
    refine lv_lconst (v := 0) hx hb dX13_wise_10 (by decide) ?_
    refine lv_ldc2 (v := 16) hx hb hown (hts _ q1406) dX13_wise_11 ?_
    refine c_r (k_S (As := [.long ((v : Int32).toInt64), .long 0, .long 16]) (rest := []) F (k_X13_in v 0 16 ((v : Int32).toInt64 : Int64) (0 : Int64) (16 : Int64) rfl (by decide) (by decide)) (va_cwS 3 hts (lw_S q1227 q1228 q107 q1229) rfl rfl rfl (by decide +kernel) ⟨Nat.le_of_ble_eq_true rfl, Nat.le_of_ble_eq_true rfl⟩) rfl hl.1 rfl (Nat.le_of_ble_eq_true rfl) dX13_wise_14 ⟨Nat.le_of_ble_eq_true rfl, Nat.le_of_ble_eq_true rfl⟩) ?_
    refine lv_if_ne (tgt := 26) hx hb dX13_wise_17 (by decide) (fun c_17 => ?_) (fun c_17 => ?_)
    · skip
      obtain ⟨k, hk, eg⟩ := isGl_to hn h8 c_5
      have eg2 : g.toNatClampNeg = k := by rw [eg, nI_clamp (by omega)]
      subst eg
      refine lv_aload_n hx hb dX13_wise_26 rfl (lv_at hl 0 rfl) ?_
      refine r_get (C := RX13) (T := TX13) (N := 18) hx hb hts in_X13 hown hK hI (mf_main) rfl 0 (by decide) (hts _ q1164) (fun _ h => h) rfl dX13_wise_27 ?_
      refine lv_aload_n hx hb dX13_wise_30 rfl (lv_at hl 0 rfl) ?_
      refine r_get (C := RX13) (T := TX13) (N := 18) hx hb hts in_X13 hown hK hI (mf_main) rfl 2 (by decide) (hts _ q1166) (fun _ h => h) rfl dX13_wise_31 ?_
      refine c_m (k_SI (As := [.ref (L 1), .ref (L 3)]) (rest := []) F (k_X13_copies (cf' := cfM D L (ys x 2 (x.1 0))) mf_d mf_aside (by decide) (ms_wn (w := 2) (by decide) (by decide) rfl)) (va_cwS 2 hts (lw_S q1391 q1392 q107 q1393) rfl rfl rfl (by decide +kernel) ⟨Nat.le_of_ble_eq_true rfl, Nat.le_of_ble_eq_true rfl⟩) hI hK rfl hl.1 rfl (Nat.le_of_ble_eq_true rfl) dX13_wise_34 ⟨Nat.le_of_ble_eq_true rfl, Nat.le_of_ble_eq_true rfl⟩) hS (fun H1 locs1 hI hS => ?_)
      obtain ⟨x2, ex2⟩ : ∃ z, z = ys x 2 (x.1 0) := ⟨_, rfl⟩
      rw [← ex2] at hI
      refine lv_iconst (v := 0) hx hb dX13_wise_37 (by decide) ?_
      refine lv_istore_n (lv' := [(3, .int 0), (0, .ref (L 0)), (1, .int (nI k)), (2, .int v)]) hx hb dX13_wise_38 rfl hl (by decide) rfl (fun ls hl => ?_)
      have lp39 : ∀ (fuel : Nat) (i : Nat), (i ≤ 200) → (fstB (p_wise (x.1 0) k v) 201 0 = fstB (p_wise (x.1 0) k v) (201 - i) i) → 200 - i < fuel → ∀ (v3 : Int32), v3 = nI i → ∀ (xc39 : mst), xc39 = ys (ys x 2 (x.1 0)) 0 (psn (x.1 0) i) → ∀ (H : Heap) (locs : List Loc), hw D (cfM D L xc39) A H → va_S A s.heap H locs → ∀ (ls : Array Slot), lv_has ls 5 [(0, .ref (L 0)), (1, .int (nI k)), (2, .int v), (3, .int v3)] → W p l e ({ frames := 6, cells := 0, slots := 0, locals := 136 } : Room) s m ([.ref (L 0), .int (nI k), .int v] : List Value).toArray below meth c H locs 0 0 (MQ below (jMQ D L (aM x (a_wise (x.1 0) (nI k) v)) A (some (.int (aR (a_wise (x.1 0) (nI k) v))))) ([.ref (L 0), .int (nI k), .int v] : List Value).toArray s 0 0 A) (F0 m 39 ls []) := by
        intro fuel
        induction fuel with
        | zero => intro i hi hp hf; exact absurd hf (Nat.not_lt_zero _)
        | succ fuel ih39 =>
          intro i hi hp hf39 v3 e3  xc39 exc39 H locs hI hS ls hl
          subst e3
          have hO_xc39 : wOk (xc39.1 0) := by rw [exc39, ys_at]; exact wOk_psn hO hd i (by omega)
          have hd_xc39 : isN (xc39.1 0 1 2) 99999 := by rw [exc39, ys_at]; exact isN_psn hd (by omega)
          have hf : xc39.1 0 = psn (x.1 0) i := by rw [exc39, ys_at]
          refine lv_iload_n hx hb dX13_wise_39 rfl (lv_at hl 3 rfl) ?_
          refine lv_sipush (v := 200) hx hb dX13_wise_40 (by decide) ?_
          refine lv_icmp_ge (tgt := 69) hx hb dX13_wise_43 (by decide) (fun c_43 => ?_) (fun c_43 => ?_)
          · skip
            have c_43 : 200 ≤ i := (nle (a := 200) (b := i) (rfl) (rfl) (by omega) (by omega)).mp c_43
            refine lv_aload_n hx hb dX13_wise_69 rfl (lv_at hl 0 rfl) ?_
            refine lv_iload_n hx hb dX13_wise_70 rfl (lv_at hl 1 rfl) ?_
            refine lv_iconst (v := 5) hx hb dX13_wise_71 (by decide) ?_
            refine c_r (k_V (As := [.int (nI k), .int 5]) (rest := []) F (k_X13_its xc39 (nI k) 5 k 5 (by omega) (by omega) rfl rfl) (cwV 2 hts (lw_V q1256 q1258 qs49 q107 q1259) rfl rfl rfl (by decide +kernel) ⟨Nat.le_of_ble_eq_true rfl, Nat.le_of_ble_eq_true rfl⟩) hI hK (hw.recv hI hK (mf_main) rfl) rfl hl.1 rfl (Nat.le_of_ble_eq_true rfl) dX13_wise_72 ⟨Nat.le_of_ble_eq_true rfl, Nat.le_of_ble_eq_true rfl⟩) ?_
            refine c_r (k_S (As := [.int (xc39.1 0 (2 + 5) k)]) (rest := []) F (k_X13_ones (xc39.1 0 (2 + 5) k) ((hO_xc39.2.1 k (by omega)).2.2.2.2.2.1)) (va_cwS 1 hts (lw_S q1363 q1364 q107 q1365) rfl rfl rfl (by decide +kernel) ⟨Nat.le_of_ble_eq_true rfl, Nat.le_of_ble_eq_true rfl⟩) rfl hl.1 rfl (Nat.le_of_ble_eq_true rfl) dX13_wise_75 ⟨Nat.le_of_ble_eq_true rfl, Nat.le_of_ble_eq_true rfl⟩) ?_
            refine lv_iload_n hx hb dX13_wise_78 rfl (lv_at hl 2 rfl) ?_
            refine lv_icmp_lt (tgt := 86) hx hb dX13_wise_79 (by decide) (fun c_79 => ?_) (fun c_79 => ?_)
            · skip
              refine lv_iconst (v := 0) hx hb dX13_wise_86 (by decide) ?_
              refine lv_istore (lv' := [(4, .int 0), (0, .ref (L 0)), (1, .int (nI k)), (2, .int v), (3, .int (nI i))]) hx hb dX13_wise_87 hl (by decide) rfl (fun ls hl => ?_)
              refine lv_aload_n hx hb dX13_wise_89 rfl (lv_at hl 1 rfl) ?_
              refine r_get (C := RX13) (T := TX13) (N := 18) hx hb hts in_X13 hown hK hI (mf_main) rfl 2 (by decide) (hts _ q1166) (fun _ h => h) rfl dX13_wise_90 ?_
              refine lv_aload_n hx hb dX13_wise_93 rfl (lv_at hl 1 rfl) ?_
              refine r_get (C := RX13) (T := TX13) (N := 18) hx hb hts in_X13 hown hK hI (mf_main) rfl 0 (by decide) (hts _ q1164) (fun _ h => h) rfl dX13_wise_94 ?_
              refine c_m (k_SI (As := [.ref (L 3), .ref (L 1)]) (rest := []) F (k_X13_copies (cf' := cfM D L (ys xc39 0 (u2 (xc39.1 2) 1 1 (xc39.1 0 1 1)))) mf_aside mf_d (by decide) (ms_w (w := 0) (by decide) (mu_gone _ _) (by rw [u2_at, if_pos ⟨rfl, rfl⟩]))) (va_cwS 2 hts (lw_S q1391 q1392 q107 q1393) rfl rfl rfl (by decide +kernel) ⟨Nat.le_of_ble_eq_true rfl, Nat.le_of_ble_eq_true rfl⟩) hI hK rfl hl.1 rfl (Nat.le_of_ble_eq_true rfl) dX13_wise_97 ⟨Nat.le_of_ble_eq_true rfl, Nat.le_of_ble_eq_true rfl⟩) hS (fun H1 locs1 hI hS => ?_)
              obtain ⟨x3, ex3⟩ : ∃ z, z = ys xc39 0 (u2 (xc39.1 2) 1 1 (xc39.1 0 1 1)) := ⟨_, rfl⟩
              rw [← ex3] at hI
              refine lv_iload hx hb dX13_wise_100 (lv_at hl 0 rfl) ?_
              refine lv_if_eq (tgt := 109) hx hb dX13_wise_102 (by decide) (fun c_102 => ?_) (fun c_102 => ?_)
              · skip
                have c_102 : 0 = 0 := (neq (a := 0) (b := 0) (rfl) (rfl) (by omega) (by omega)).mp c_102
                have hrr := rh_miss hp hi (by first | omega | (exfalso; rw [hf] at c_56 c_79; exact c_56 c_79)) (by rw [hf] at c_79; exact decide_eq_false (fun q => q c_79))
                refine lv_aload_n hx hb dX13_wise_109 rfl (lv_at hl 1 rfl) ?_
                refine lv_iconst (v := 3) hx hb dX13_wise_110 (by decide) ?_
                refine c_m (k_V (As := [.int 3]) (rest := []) F (k_X13_finds x3 3 (by decide)) (cwV 1 hts (lw_V q1238 q1240 qs47 q107 q1241) rfl rfl rfl (by decide +kernel) ⟨Nat.le_of_ble_eq_true rfl, Nat.le_of_ble_eq_true rfl⟩) hI hK (hw.recv hI hK (mf_main) rfl) rfl hl.1 rfl (Nat.le_of_ble_eq_true rfl) dX13_wise_111 ⟨Nat.le_of_ble_eq_true rfl, Nat.le_of_ble_eq_true rfl⟩) hS (fun H1 locs1 hI hS => ?_)
                obtain ⟨x4, ex4⟩ : ∃ z, z = (fndM x3 3) := ⟨_, rfl⟩
                rw [← ex4] at hI
                exact W.iret hx hb hr (fun t ht _ => ⟨rI (by first | (rw [a_wise, if_neg c_5, if_neg c_17, eg2, aR_orN, orI, hrr]; rfl) | (rw [a_wise, if_neg c_5, if_neg c_17, eg2, aR_orN, hrr, orI, if_neg (nI_m1 (by omega))])), ⟨x4, (by first | (rw [a_wise, if_neg c_5, if_neg c_17, eg2, aM_orN, orM, hrr, if_pos rfl, ex4]; refine jm_fnd ?_ 3; rw [ex3, exc39]; simp only [ys_at, ys_ys, ys_c0]; exact jm_t _ _ _ (psn_1 _ _ 1 (by decide))) | (rw [a_wise, if_neg c_5, if_neg c_17, eg2, aM_orN, hrr, orM, if_neg (nI_m1 (by omega))]; rw [ex4, ex3, exc39]; simp only [ys_at, ys_ys, ys_c0]; exact jm_t _ _ _ (psn_1 _ _ 1 (by decide)))), by rw [ht]; exact hI⟩, hS.F ht⟩) hS.2.2 dX13_wise_114
              · skip
                have c_102 : ¬ 0 = 0 := fun z => c_102 ((neq (a := 0) (b := 0) (rfl) (rfl) (by omega) (by omega)).mpr z)
                exact absurd (by decide) c_102
            · skip
              refine lv_iconst (v := 1) hx hb dX13_wise_82 (by decide) ?_
              refine lv_goto (tgt := 87) hx hb dX13_wise_83 (by decide) ?_
              refine lv_istore (lv' := [(4, .int 1), (0, .ref (L 0)), (1, .int (nI k)), (2, .int v), (3, .int (nI i))]) hx hb dX13_wise_87 hl (by decide) rfl (fun ls hl => ?_)
              refine lv_aload_n hx hb dX13_wise_89 rfl (lv_at hl 1 rfl) ?_
              refine r_get (C := RX13) (T := TX13) (N := 18) hx hb hts in_X13 hown hK hI (mf_main) rfl 2 (by decide) (hts _ q1166) (fun _ h => h) rfl dX13_wise_90 ?_
              refine lv_aload_n hx hb dX13_wise_93 rfl (lv_at hl 1 rfl) ?_
              refine r_get (C := RX13) (T := TX13) (N := 18) hx hb hts in_X13 hown hK hI (mf_main) rfl 0 (by decide) (hts _ q1164) (fun _ h => h) rfl dX13_wise_94 ?_
              refine c_m (k_SI (As := [.ref (L 3), .ref (L 1)]) (rest := []) F (k_X13_copies (cf' := cfM D L (ys xc39 0 (u2 (xc39.1 2) 1 1 (xc39.1 0 1 1)))) mf_aside mf_d (by decide) (ms_w (w := 0) (by decide) (mu_gone _ _) (by rw [u2_at, if_pos ⟨rfl, rfl⟩]))) (va_cwS 2 hts (lw_S q1391 q1392 q107 q1393) rfl rfl rfl (by decide +kernel) ⟨Nat.le_of_ble_eq_true rfl, Nat.le_of_ble_eq_true rfl⟩) hI hK rfl hl.1 rfl (Nat.le_of_ble_eq_true rfl) dX13_wise_97 ⟨Nat.le_of_ble_eq_true rfl, Nat.le_of_ble_eq_true rfl⟩) hS (fun H1 locs1 hI hS => ?_)
              obtain ⟨x5, ex5⟩ : ∃ z, z = ys xc39 0 (u2 (xc39.1 2) 1 1 (xc39.1 0 1 1)) := ⟨_, rfl⟩
              rw [← ex5] at hI
              refine lv_iload hx hb dX13_wise_100 (lv_at hl 0 rfl) ?_
              refine lv_if_eq (tgt := 109) hx hb dX13_wise_102 (by decide) (fun c_102 => ?_) (fun c_102 => ?_)
              · skip
                have c_102 : 1 = 0 := (neq (a := 1) (b := 0) (rfl) (rfl) (by omega) (by omega)).mp c_102
                exact absurd c_102 (by decide)
              · skip
                have c_102 : ¬ 1 = 0 := fun z => c_102 ((neq (a := 1) (b := 0) (rfl) (rfl) (by omega) (by omega)).mpr z)
                have hrr := rh_hit hp hi (by rw [hf] at c_79; exact decide_eq_true c_79)
                refine lv_iload_n hx hb dX13_wise_105 rfl (lv_at hl 4 rfl) ?_
                refine lv_goto (tgt := 114) hx hb dX13_wise_106 (by decide) ?_
                exact W.iret hx hb hr (fun t ht _ => ⟨rI (by first | (rw [a_wise, if_neg c_5, if_neg c_17, eg2, aR_orN, orI, hrr]; rfl) | (rw [a_wise, if_neg c_5, if_neg c_17, eg2, aR_orN, hrr, orI, if_neg (nI_m1 (by omega))])), ⟨x5, (by first | (rw [a_wise, if_neg c_5, if_neg c_17, eg2, aM_orN, orM, hrr, if_pos rfl, ex5]; refine jm_fnd ?_ 3; rw [exc39]; simp only [ys_at, ys_ys, ys_c0]; exact jm_t _ _ _ (psn_1 _ _ 1 (by decide))) | (rw [a_wise, if_neg c_5, if_neg c_17, eg2, aM_orN, hrr, orM, if_neg (nI_m1 (by omega))]; rw [ex5, exc39]; simp only [ys_at, ys_ys, ys_c0]; exact jm_t _ _ _ (psn_1 _ _ 1 (by decide)))), by rw [ht]; exact hI⟩, hS.F ht⟩) hS.2.2 dX13_wise_114
          · skip
            have c_43 : ¬ 200 ≤ i := fun z => c_43 ((nle (a := 200) (b := i) (rfl) (rfl) (by omega) (by omega)).mpr z)
            refine lv_aload_n hx hb dX13_wise_46 rfl (lv_at hl 0 rfl) ?_
            refine lv_iload_n hx hb dX13_wise_47 rfl (lv_at hl 1 rfl) ?_
            refine lv_iconst (v := 5) hx hb dX13_wise_48 (by decide) ?_
            refine c_r (k_V (As := [.int (nI k), .int 5]) (rest := []) F (k_X13_its xc39 (nI k) 5 k 5 (by omega) (by omega) rfl rfl) (cwV 2 hts (lw_V q1256 q1258 qs49 q107 q1259) rfl rfl rfl (by decide +kernel) ⟨Nat.le_of_ble_eq_true rfl, Nat.le_of_ble_eq_true rfl⟩) hI hK (hw.recv hI hK (mf_main) rfl) rfl hl.1 rfl (Nat.le_of_ble_eq_true rfl) dX13_wise_49 ⟨Nat.le_of_ble_eq_true rfl, Nat.le_of_ble_eq_true rfl⟩) ?_
            refine c_r (k_S (As := [.int (xc39.1 0 (2 + 5) k)]) (rest := []) F (k_X13_ones (xc39.1 0 (2 + 5) k) ((hO_xc39.2.1 k (by omega)).2.2.2.2.2.1)) (va_cwS 1 hts (lw_S q1363 q1364 q107 q1365) rfl rfl rfl (by decide +kernel) ⟨Nat.le_of_ble_eq_true rfl, Nat.le_of_ble_eq_true rfl⟩) rfl hl.1 rfl (Nat.le_of_ble_eq_true rfl) dX13_wise_52 ⟨Nat.le_of_ble_eq_true rfl, Nat.le_of_ble_eq_true rfl⟩) ?_
            refine lv_iload_n hx hb dX13_wise_55 rfl (lv_at hl 2 rfl) ?_
            refine lv_icmp_ge (tgt := 69) hx hb dX13_wise_56 (by decide) (fun c_56 => ?_) (fun c_56 => ?_)
            · skip
              have c_56 := Int32.not_lt.mpr c_56
              refine lv_aload_n hx hb dX13_wise_69 rfl (lv_at hl 0 rfl) ?_
              refine lv_iload_n hx hb dX13_wise_70 rfl (lv_at hl 1 rfl) ?_
              refine lv_iconst (v := 5) hx hb dX13_wise_71 (by decide) ?_
              refine c_r (k_V (As := [.int (nI k), .int 5]) (rest := []) F (k_X13_its xc39 (nI k) 5 k 5 (by omega) (by omega) rfl rfl) (cwV 2 hts (lw_V q1256 q1258 qs49 q107 q1259) rfl rfl rfl (by decide +kernel) ⟨Nat.le_of_ble_eq_true rfl, Nat.le_of_ble_eq_true rfl⟩) hI hK (hw.recv hI hK (mf_main) rfl) rfl hl.1 rfl (Nat.le_of_ble_eq_true rfl) dX13_wise_72 ⟨Nat.le_of_ble_eq_true rfl, Nat.le_of_ble_eq_true rfl⟩) ?_
              refine c_r (k_S (As := [.int (xc39.1 0 (2 + 5) k)]) (rest := []) F (k_X13_ones (xc39.1 0 (2 + 5) k) ((hO_xc39.2.1 k (by omega)).2.2.2.2.2.1)) (va_cwS 1 hts (lw_S q1363 q1364 q107 q1365) rfl rfl rfl (by decide +kernel) ⟨Nat.le_of_ble_eq_true rfl, Nat.le_of_ble_eq_true rfl⟩) rfl hl.1 rfl (Nat.le_of_ble_eq_true rfl) dX13_wise_75 ⟨Nat.le_of_ble_eq_true rfl, Nat.le_of_ble_eq_true rfl⟩) ?_
              refine lv_iload_n hx hb dX13_wise_78 rfl (lv_at hl 2 rfl) ?_
              refine lv_icmp_lt (tgt := 86) hx hb dX13_wise_79 (by decide) (fun c_79 => ?_) (fun c_79 => ?_)
              · skip
                refine lv_iconst (v := 0) hx hb dX13_wise_86 (by decide) ?_
                refine lv_istore (lv' := [(4, .int 0), (0, .ref (L 0)), (1, .int (nI k)), (2, .int v), (3, .int (nI i))]) hx hb dX13_wise_87 hl (by decide) rfl (fun ls hl => ?_)
                refine lv_aload_n hx hb dX13_wise_89 rfl (lv_at hl 1 rfl) ?_
                refine r_get (C := RX13) (T := TX13) (N := 18) hx hb hts in_X13 hown hK hI (mf_main) rfl 2 (by decide) (hts _ q1166) (fun _ h => h) rfl dX13_wise_90 ?_
                refine lv_aload_n hx hb dX13_wise_93 rfl (lv_at hl 1 rfl) ?_
                refine r_get (C := RX13) (T := TX13) (N := 18) hx hb hts in_X13 hown hK hI (mf_main) rfl 0 (by decide) (hts _ q1164) (fun _ h => h) rfl dX13_wise_94 ?_
                refine c_m (k_SI (As := [.ref (L 3), .ref (L 1)]) (rest := []) F (k_X13_copies (cf' := cfM D L (ys xc39 0 (u2 (xc39.1 2) 1 1 (xc39.1 0 1 1)))) mf_aside mf_d (by decide) (ms_w (w := 0) (by decide) (mu_gone _ _) (by rw [u2_at, if_pos ⟨rfl, rfl⟩]))) (va_cwS 2 hts (lw_S q1391 q1392 q107 q1393) rfl rfl rfl (by decide +kernel) ⟨Nat.le_of_ble_eq_true rfl, Nat.le_of_ble_eq_true rfl⟩) hI hK rfl hl.1 rfl (Nat.le_of_ble_eq_true rfl) dX13_wise_97 ⟨Nat.le_of_ble_eq_true rfl, Nat.le_of_ble_eq_true rfl⟩) hS (fun H1 locs1 hI hS => ?_)
                obtain ⟨x6, ex6⟩ : ∃ z, z = ys xc39 0 (u2 (xc39.1 2) 1 1 (xc39.1 0 1 1)) := ⟨_, rfl⟩
                rw [← ex6] at hI
                refine lv_iload hx hb dX13_wise_100 (lv_at hl 0 rfl) ?_
                refine lv_if_eq (tgt := 109) hx hb dX13_wise_102 (by decide) (fun c_102 => ?_) (fun c_102 => ?_)
                · skip
                  have c_102 : 0 = 0 := (neq (a := 0) (b := 0) (rfl) (rfl) (by omega) (by omega)).mp c_102
                  have hrr := rh_miss hp hi (by first | omega | (exfalso; rw [hf] at c_56 c_79; exact c_56 c_79)) (by rw [hf] at c_79; exact decide_eq_false (fun q => q c_79))
                  refine lv_aload_n hx hb dX13_wise_109 rfl (lv_at hl 1 rfl) ?_
                  refine lv_iconst (v := 3) hx hb dX13_wise_110 (by decide) ?_
                  refine c_m (k_V (As := [.int 3]) (rest := []) F (k_X13_finds x6 3 (by decide)) (cwV 1 hts (lw_V q1238 q1240 qs47 q107 q1241) rfl rfl rfl (by decide +kernel) ⟨Nat.le_of_ble_eq_true rfl, Nat.le_of_ble_eq_true rfl⟩) hI hK (hw.recv hI hK (mf_main) rfl) rfl hl.1 rfl (Nat.le_of_ble_eq_true rfl) dX13_wise_111 ⟨Nat.le_of_ble_eq_true rfl, Nat.le_of_ble_eq_true rfl⟩) hS (fun H1 locs1 hI hS => ?_)
                  obtain ⟨x7, ex7⟩ : ∃ z, z = (fndM x6 3) := ⟨_, rfl⟩
                  rw [← ex7] at hI
                  exact W.iret hx hb hr (fun t ht _ => ⟨rI (by first | (rw [a_wise, if_neg c_5, if_neg c_17, eg2, aR_orN, orI, hrr]; rfl) | (rw [a_wise, if_neg c_5, if_neg c_17, eg2, aR_orN, hrr, orI, if_neg (nI_m1 (by omega))])), ⟨x7, (by first | (rw [a_wise, if_neg c_5, if_neg c_17, eg2, aM_orN, orM, hrr, if_pos rfl, ex7]; refine jm_fnd ?_ 3; rw [ex6, exc39]; simp only [ys_at, ys_ys, ys_c0]; exact jm_t _ _ _ (psn_1 _ _ 1 (by decide))) | (rw [a_wise, if_neg c_5, if_neg c_17, eg2, aM_orN, hrr, orM, if_neg (nI_m1 (by omega))]; rw [ex7, ex6, exc39]; simp only [ys_at, ys_ys, ys_c0]; exact jm_t _ _ _ (psn_1 _ _ 1 (by decide)))), by rw [ht]; exact hI⟩, hS.F ht⟩) hS.2.2 dX13_wise_114
                · skip
                  have c_102 : ¬ 0 = 0 := fun z => c_102 ((neq (a := 0) (b := 0) (rfl) (rfl) (by omega) (by omega)).mpr z)
                  exact absurd (by decide) c_102
              · skip
                refine lv_iconst (v := 1) hx hb dX13_wise_82 (by decide) ?_
                refine lv_goto (tgt := 87) hx hb dX13_wise_83 (by decide) ?_
                refine lv_istore (lv' := [(4, .int 1), (0, .ref (L 0)), (1, .int (nI k)), (2, .int v), (3, .int (nI i))]) hx hb dX13_wise_87 hl (by decide) rfl (fun ls hl => ?_)
                refine lv_aload_n hx hb dX13_wise_89 rfl (lv_at hl 1 rfl) ?_
                refine r_get (C := RX13) (T := TX13) (N := 18) hx hb hts in_X13 hown hK hI (mf_main) rfl 2 (by decide) (hts _ q1166) (fun _ h => h) rfl dX13_wise_90 ?_
                refine lv_aload_n hx hb dX13_wise_93 rfl (lv_at hl 1 rfl) ?_
                refine r_get (C := RX13) (T := TX13) (N := 18) hx hb hts in_X13 hown hK hI (mf_main) rfl 0 (by decide) (hts _ q1164) (fun _ h => h) rfl dX13_wise_94 ?_
                refine c_m (k_SI (As := [.ref (L 3), .ref (L 1)]) (rest := []) F (k_X13_copies (cf' := cfM D L (ys xc39 0 (u2 (xc39.1 2) 1 1 (xc39.1 0 1 1)))) mf_aside mf_d (by decide) (ms_w (w := 0) (by decide) (mu_gone _ _) (by rw [u2_at, if_pos ⟨rfl, rfl⟩]))) (va_cwS 2 hts (lw_S q1391 q1392 q107 q1393) rfl rfl rfl (by decide +kernel) ⟨Nat.le_of_ble_eq_true rfl, Nat.le_of_ble_eq_true rfl⟩) hI hK rfl hl.1 rfl (Nat.le_of_ble_eq_true rfl) dX13_wise_97 ⟨Nat.le_of_ble_eq_true rfl, Nat.le_of_ble_eq_true rfl⟩) hS (fun H1 locs1 hI hS => ?_)
                obtain ⟨x8, ex8⟩ : ∃ z, z = ys xc39 0 (u2 (xc39.1 2) 1 1 (xc39.1 0 1 1)) := ⟨_, rfl⟩
                rw [← ex8] at hI
                refine lv_iload hx hb dX13_wise_100 (lv_at hl 0 rfl) ?_
                refine lv_if_eq (tgt := 109) hx hb dX13_wise_102 (by decide) (fun c_102 => ?_) (fun c_102 => ?_)
                · skip
                  have c_102 : 1 = 0 := (neq (a := 1) (b := 0) (rfl) (rfl) (by omega) (by omega)).mp c_102
                  exact absurd c_102 (by decide)
                · skip
                  have c_102 : ¬ 1 = 0 := fun z => c_102 ((neq (a := 1) (b := 0) (rfl) (rfl) (by omega) (by omega)).mpr z)
                  have hrr := rh_hit hp hi (by rw [hf] at c_79; exact decide_eq_true c_79)
                  refine lv_iload_n hx hb dX13_wise_105 rfl (lv_at hl 4 rfl) ?_
                  refine lv_goto (tgt := 114) hx hb dX13_wise_106 (by decide) ?_
                  exact W.iret hx hb hr (fun t ht _ => ⟨rI (by first | (rw [a_wise, if_neg c_5, if_neg c_17, eg2, aR_orN, orI, hrr]; rfl) | (rw [a_wise, if_neg c_5, if_neg c_17, eg2, aR_orN, hrr, orI, if_neg (nI_m1 (by omega))])), ⟨x8, (by first | (rw [a_wise, if_neg c_5, if_neg c_17, eg2, aM_orN, orM, hrr, if_pos rfl, ex8]; refine jm_fnd ?_ 3; rw [exc39]; simp only [ys_at, ys_ys, ys_c0]; exact jm_t _ _ _ (psn_1 _ _ 1 (by decide))) | (rw [a_wise, if_neg c_5, if_neg c_17, eg2, aM_orN, hrr, orM, if_neg (nI_m1 (by omega))]; rw [ex8, exc39]; simp only [ys_at, ys_ys, ys_c0]; exact jm_t _ _ _ (psn_1 _ _ 1 (by decide)))), by rw [ht]; exact hI⟩, hS.F ht⟩) hS.2.2 dX13_wise_114
            · skip
              have c_56 := Int32.not_le.mp c_56
              refine lv_aload_n hx hb dX13_wise_59 rfl (lv_at hl 0 rfl) ?_
              refine c_m (k_V (As := []) (rest := []) F (k_X13_dayGoes xc39 (hO_xc39) (hd_xc39)) (cwV 0 hts (lw_V q1347 q1349 qs62 q107 q1350) rfl rfl rfl (by decide +kernel) ⟨Nat.le_of_ble_eq_true rfl, Nat.le_of_ble_eq_true rfl⟩) hI hK (hw.recv hI hK (mf_main) rfl) rfl hl.1 rfl (Nat.le_of_ble_eq_true rfl) dX13_wise_60 ⟨Nat.le_of_ble_eq_true rfl, Nat.le_of_ble_eq_true rfl⟩) hS (fun H1 locs1 hI hS => ?_)
              obtain ⟨x9, ex9⟩ : ∃ z, z = ys xc39 0 (psw (xc39.1 0)) := ⟨_, rfl⟩
              rw [← ex9] at hI
              refine lv_iinc (v := (nI (i + 1))) (lv' := [(3, .int (nI (i + 1))), (0, .ref (L 0)), (1, .int (nI k)), (2, .int v)]) hx hb dX13_wise_63 hl (k := 3) rfl (nI_1 _) (by decide) rfl (fun ls hl => ?_)
              refine lv_goto (tgt := 39) hx hb dX13_wise_66 (by decide) ?_
              exact ih39 (i + 1) (by omega) (by rw [hp, fstB_go (by rw [hf] at c_56; exact decide_eq_false (fun q => q c_56)) (by omega)]; rfl) (by omega) (nI (i + 1)) (rfl) x9 (by rw [ex9, exc39]; simp only [ys_at, ys_ys]; rfl) _ _ hI hS ls (lv_sub hl [1, 2, 3, 0] rfl)
      exact lp39 (_ + 1) (0) (by decide) (rfl) (Nat.lt_succ_self _) 0 (rfl) x2 (by rw [ex2]; exact (ys_20 x).symm) _ _ hI hS ls (lv_sub hl [1, 2, 3, 0] rfl)
    · skip
      refine lv_aload_n hx hb dX13_wise_20 rfl (lv_at hl 0 rfl) ?_
      refine lv_iconst (v := 0) hx hb dX13_wise_21 (by decide) ?_
      refine c_m (k_V (As := [.int 0]) (rest := []) F (k_X13_finds x 0 (by decide)) (cwV 1 hts (lw_V q1238 q1240 qs47 q107 q1241) rfl rfl rfl (by decide +kernel) ⟨Nat.le_of_ble_eq_true rfl, Nat.le_of_ble_eq_true rfl⟩) hI hK (hw.recv hI hK (mf_main) rfl) rfl hl.1 rfl (Nat.le_of_ble_eq_true rfl) dX13_wise_22 ⟨Nat.le_of_ble_eq_true rfl, Nat.le_of_ble_eq_true rfl⟩) hS (fun H1 locs1 hI hS => ?_)
      obtain ⟨x10, ex10⟩ : ∃ z, z = (fndM x 0) := ⟨_, rfl⟩
      rw [← ex10] at hI
      exact W.iret hx hb hr (fun t ht _ => ⟨rI (by first | (simp [a_wise, aR, c_5, c_17]; done)), ⟨x10, (by first | (refine jm_eq ?_; rw [ex10]; simp [a_wise, aM, c_5, c_17]; done)), by rw [ht]; exact hI⟩, hS.F ht⟩) hS.2.2 dX13_wise_25
theorem k_X13_areKnown {l : Launch} {D : va_G} {L : Nat → Nat} {A : Nat → Prop} (x : mst) (hO : wOk (x.1 0)) (t : Int32) : Met l yX13_areKnown (ws_ yX13_areKnown cX13_areKnown 2 (some .boolean)) ({ frames := 3, cells := 0, slots := 0, locals := 66 } : Room) (va_Pc [.ref (L 0), .int t] (pI D (cfM D L x) A)) (rQ (.int (akI (x.1 0) t))) 0 0 nof := by
  refine met_I (by decide) rfl (Nat.le_of_ble_eq_true rfl) ?_
  intro p e s m below meth c ls hx hb hr hml hown hts hlocks hl hI hK
  have F : CallFix p m c cX13_areKnown 2 s _ lw_all RX13 := ⟨hx, hb, hml, hown, hts⟩
  have hl : lv_has ls 2 [(0, .ref (L 0)), (1, .int t)] := hl
  refine lv_iload_n hx hb dX13_areKnown_0 rfl (lv_at hl 1 rfl) ?_
  refine lv_aload_n hx hb dX13_areKnown_1 rfl (lv_at hl 0 rfl) ?_
  refine c_r (k_V (As := []) (rest := [.int t]) F (k_X13_allKnow x (hO)) (cwV 0 hts (lw_V q1366 q1368 qs66 q107 q1369) rfl rfl rfl (by decide +kernel) ⟨Nat.le_of_ble_eq_true rfl, Nat.le_of_ble_eq_true rfl⟩) hI hK (hw.recv hI hK (mf_main) rfl) rfl hl.1 rfl (Nat.le_of_ble_eq_true rfl) dX13_areKnown_2 ⟨Nat.le_of_ble_eq_true rfl, Nat.le_of_ble_eq_true rfl⟩) ?_
  refine lv_aload_n hx hb dX13_areKnown_5 rfl (lv_at hl 0 rfl) ?_
  refine c_r (k_V (As := []) (rest := [.int (knI (x.1 0) 3 (allI (x.1 0))), .int t]) F (k_X13_allHands x (hO)) (cwV 0 hts (lw_V q1374 q1376 qs67 q107 q1377) rfl rfl rfl (by decide +kernel) ⟨Nat.le_of_ble_eq_true rfl, Nat.le_of_ble_eq_true rfl⟩) hI hK (hw.recv hI hK (mf_main) rfl) rfl hl.1 rfl (Nat.le_of_ble_eq_true rfl) dX13_areKnown_6 ⟨Nat.le_of_ble_eq_true rfl, Nat.le_of_ble_eq_true rfl⟩) ?_
  refine lv_ior hx hb dX13_areKnown_9 ?_
  refine lv_iconst (v := (-1)) hx hb dX13_areKnown_10 (by decide) ?_
  refine lv_ixor hx hb dX13_areKnown_11 ?_
  refine lv_iand hx hb dX13_areKnown_12 ?_
  refine lv_if_ne (tgt := 20) hx hb dX13_areKnown_13 (by decide) (fun c_13 => ?_) (fun c_13 => ?_)
  · skip
    refine lv_iconst (v := 0) hx hb dX13_areKnown_20 (by decide) ?_
    exact W.zret hx hb hr (rfl) (fun t ht _ => ⟨rI (by unfold akI kbI; first | rw [if_neg c_13] | rw [if_pos c_13]), ht⟩) (fun q h => by cases h) dX13_areKnown_21
  · skip
    refine lv_iconst (v := 1) hx hb dX13_areKnown_16 (by decide) ?_
    refine lv_goto (tgt := 21) hx hb dX13_areKnown_17 (by decide) ?_
    exact W.zret hx hb hr (rfl) (fun t ht _ => ⟨rI (by unfold akI kbI; first | rw [if_neg c_13] | rw [if_pos c_13]), ht⟩) (fun q h => by cases h) dX13_areKnown_21
set_option maxHeartbeats 2000000 in
theorem k_X13_out {l : Launch} {D : va_G} {L : Nat → Nat} {A : Nat → Prop} (x : mst) (hO : wOk (x.1 0)) (hd : isN (x.1 0 1 2) 10000) (t : Int32) : Met l yX13_out (ws_ yX13_out cX13_out 4 (some .int)) ({ frames := 6, cells := 0, slots := 0, locals := 136 } : Room) (va_Pc [.ref (L 0), .int t] (pI D (cfM D L x) A)) (jMQ D L (aM x (a_out (x.1 0) t)) A (some (.int (aR (a_out (x.1 0) t))))) 0 0 A := by
  refine met_I (by decide) rfl (Nat.le_of_ble_eq_true rfl) ?_
  intro p e s m below meth c ls hx hb hr hml hown hts hlocks hl hI hK
  have F : CallFix p m c cX13_out 4 s _ lw_all RX13 := ⟨hx, hb, hml, hown, hts⟩
  have hl : lv_has ls 4 [(0, .ref (L 0)), (1, .int t)] := hl
  have hS : va_S A s.heap s.heap [] := va_S.rf
  obtain ⟨nn, hn, h8⟩ : ∃ n, x.1 0 1 0 = nI n ∧ n ≤ 8 := ⟨_, hO.n⟩
  have hN : wN (x.1 0) = nn := by unfold wN; rw [hn, nI_clamp (by omega)]
  refine lv_iload_n hx hb dX13_out_0 rfl (lv_at hl 1 rfl) ?_
  refine c_r (k_S (As := [.int t]) (rest := []) F (k_X13_areTopics t) (va_cwS 1 hts (lw_S q1411 q1412 q107 q1413) rfl rfl rfl (by decide +kernel) ⟨Nat.le_of_ble_eq_true rfl, Nat.le_of_ble_eq_true rfl⟩) rfl hl.1 rfl (Nat.le_of_ble_eq_true rfl) dX13_out_1 ⟨Nat.le_of_ble_eq_true rfl, Nat.le_of_ble_eq_true rfl⟩) ?_
  refine lv_if_ne (tgt := 13) hx hb dX13_out_4 (by decide) (fun c_4 => ?_) (fun c_4 => ?_)
  · skip
    refine lv_aload_n hx hb dX13_out_13 rfl (lv_at hl 0 rfl) ?_
    refine r_get (C := RX13) (T := TX13) (N := 18) hx hb hts in_X13 hown hK hI (mf_main) rfl 0 (by decide) (hts _ q1164) (fun _ h => h) rfl dX13_out_14 ?_
    refine lv_aload_n hx hb dX13_out_17 rfl (lv_at hl 0 rfl) ?_
    refine r_get (C := RX13) (T := TX13) (N := 18) hx hb hts in_X13 hown hK hI (mf_main) rfl 2 (by decide) (hts _ q1166) (fun _ h => h) rfl dX13_out_18 ?_
    refine c_m (k_SI (As := [.ref (L 1), .ref (L 3)]) (rest := []) F (k_X13_copies (cf' := cfM D L (ys x 2 (x.1 0))) mf_d mf_aside (by decide) (ms_wn (w := 2) (by decide) (by decide) rfl)) (va_cwS 2 hts (lw_S q1391 q1392 q107 q1393) rfl rfl rfl (by decide +kernel) ⟨Nat.le_of_ble_eq_true rfl, Nat.le_of_ble_eq_true rfl⟩) hI hK rfl hl.1 rfl (Nat.le_of_ble_eq_true rfl) dX13_out_21 ⟨Nat.le_of_ble_eq_true rfl, Nat.le_of_ble_eq_true rfl⟩) hS (fun H1 locs1 hI hS => ?_)
    obtain ⟨x1, ex1⟩ : ∃ z, z = ys x 2 (x.1 0) := ⟨_, rfl⟩
    rw [← ex1] at hI
    refine lv_iconst (v := 0) hx hb dX13_out_24 (by decide) ?_
    refine lv_istore_n (lv' := [(2, .int 0), (0, .ref (L 0)), (1, .int t)]) hx hb dX13_out_25 rfl hl (by decide) rfl (fun ls hl => ?_)
    have lp26 : ∀ (fuel : Nat) (i : Nat), (i ≤ 200) → (fstB (p_out (x.1 0) t) 201 0 = fstB (p_out (x.1 0) t) (201 - i) i) → 200 - i < fuel → ∀ (v2 : Int32), v2 = nI i → ∀ (xc26 : mst), xc26 = ys (ys x 2 (x.1 0)) 0 (psn (x.1 0) i) → ∀ (H : Heap) (locs : List Loc), hw D (cfM D L xc26) A H → va_S A s.heap H locs → ∀ (ls : Array Slot), lv_has ls 4 [(0, .ref (L 0)), (1, .int t), (2, .int v2)] → W p l e ({ frames := 6, cells := 0, slots := 0, locals := 136 } : Room) s m ([.ref (L 0), .int t] : List Value).toArray below meth c H locs 0 0 (MQ below (jMQ D L (aM x (a_out (x.1 0) t)) A (some (.int (aR (a_out (x.1 0) t))))) ([.ref (L 0), .int t] : List Value).toArray s 0 0 A) (F0 m 26 ls []) := by
      intro fuel
      induction fuel with
      | zero => intro i hi hp hf; exact absurd hf (Nat.not_lt_zero _)
      | succ fuel ih26 =>
        intro i hi hp hf26 v2 e2  xc26 exc26 H locs hI hS ls hl
        subst e2
        have hO_xc26 : wOk (xc26.1 0) := by rw [exc26, ys_at]; exact wOk_psn hO hd i (by omega)
        have hd_xc26 : isN (xc26.1 0 1 2) 99999 := by rw [exc26, ys_at]; exact isN_psn hd (by omega)
        have hf : xc26.1 0 = psn (x.1 0) i := by rw [exc26, ys_at]
        refine lv_iload_n hx hb dX13_out_26 rfl (lv_at hl 2 rfl) ?_
        refine lv_sipush (v := 200) hx hb dX13_out_27 (by decide) ?_
        refine lv_icmp_ge (tgt := 51) hx hb dX13_out_30 (by decide) (fun c_30 => ?_) (fun c_30 => ?_)
        · skip
          have c_30 : 200 ≤ i := (nle (a := 200) (b := i) (rfl) (rfl) (by omega) (by omega)).mp c_30
          refine lv_aload_n hx hb dX13_out_51 rfl (lv_at hl 0 rfl) ?_
          refine lv_iload_n hx hb dX13_out_52 rfl (lv_at hl 1 rfl) ?_
          refine c_r (k_V (As := [.int t]) (rest := []) F (k_X13_areKnown xc26 (hO_xc26) t) (cwV 1 hts (lw_V q1415 q1417 qs71 q107 q1418) rfl rfl rfl (by decide +kernel) ⟨Nat.le_of_ble_eq_true rfl, Nat.le_of_ble_eq_true rfl⟩) hI hK (hw.recv hI hK (mf_main) rfl) rfl hl.1 rfl (Nat.le_of_ble_eq_true rfl) dX13_out_53 ⟨Nat.le_of_ble_eq_true rfl, Nat.le_of_ble_eq_true rfl⟩) ?_
          refine lv_istore_n (lv' := [(3, .int (akI (xc26.1 0) t)), (0, .ref (L 0)), (1, .int t), (2, .int (nI i))]) hx hb dX13_out_56 rfl hl (by decide) rfl (fun ls hl => ?_)
          refine lv_aload_n hx hb dX13_out_57 rfl (lv_at hl 1 rfl) ?_
          refine r_get (C := RX13) (T := TX13) (N := 18) hx hb hts in_X13 hown hK hI (mf_main) rfl 2 (by decide) (hts _ q1166) (fun _ h => h) rfl dX13_out_58 ?_
          refine lv_aload_n hx hb dX13_out_61 rfl (lv_at hl 1 rfl) ?_
          refine r_get (C := RX13) (T := TX13) (N := 18) hx hb hts in_X13 hown hK hI (mf_main) rfl 0 (by decide) (hts _ q1164) (fun _ h => h) rfl dX13_out_62 ?_
          refine c_m (k_SI (As := [.ref (L 3), .ref (L 1)]) (rest := []) F (k_X13_copies (cf' := cfM D L (ys xc26 0 (u2 (xc26.1 2) 1 1 (xc26.1 0 1 1)))) mf_aside mf_d (by decide) (ms_w (w := 0) (by decide) (mu_gone _ _) (by rw [u2_at, if_pos ⟨rfl, rfl⟩]))) (va_cwS 2 hts (lw_S q1391 q1392 q107 q1393) rfl rfl rfl (by decide +kernel) ⟨Nat.le_of_ble_eq_true rfl, Nat.le_of_ble_eq_true rfl⟩) hI hK rfl hl.1 rfl (Nat.le_of_ble_eq_true rfl) dX13_out_65 ⟨Nat.le_of_ble_eq_true rfl, Nat.le_of_ble_eq_true rfl⟩) hS (fun H1 locs1 hI hS => ?_)
          obtain ⟨x2, ex2⟩ : ∃ z, z = ys xc26 0 (u2 (xc26.1 2) 1 1 (xc26.1 0 1 1)) := ⟨_, rfl⟩
          rw [← ex2] at hI
          refine lv_iload_n hx hb dX13_out_68 rfl (lv_at hl 0 rfl) ?_
          refine lv_if_eq (tgt := 76) hx hb dX13_out_69 (by decide) (fun c_69 => ?_) (fun c_69 => ?_)
          · skip
            have hrr := rh_miss hp hi (by first | omega | (exfalso; rw [hf] at c_38 c_69; exact c_38 c_69)) (by rw [hf] at c_69; exact decide_eq_false (ak_0 c_69))
            refine lv_aload_n hx hb dX13_out_76 rfl (lv_at hl 1 rfl) ?_
            refine lv_iconst (v := 3) hx hb dX13_out_77 (by decide) ?_
            refine c_m (k_V (As := [.int 3]) (rest := []) F (k_X13_finds x2 3 (by decide)) (cwV 1 hts (lw_V q1238 q1240 qs47 q107 q1241) rfl rfl rfl (by decide +kernel) ⟨Nat.le_of_ble_eq_true rfl, Nat.le_of_ble_eq_true rfl⟩) hI hK (hw.recv hI hK (mf_main) rfl) rfl hl.1 rfl (Nat.le_of_ble_eq_true rfl) dX13_out_78 ⟨Nat.le_of_ble_eq_true rfl, Nat.le_of_ble_eq_true rfl⟩) hS (fun H1 locs1 hI hS => ?_)
            obtain ⟨x3, ex3⟩ : ∃ z, z = (fndM x2 3) := ⟨_, rfl⟩
            rw [← ex3] at hI
            exact W.iret hx hb hr (fun t ht _ => ⟨rI (by first | (rw [a_out, if_neg c_4, aR_orN, orI, hrr]; rfl) | (rw [a_out, if_neg c_4, aR_orN, hrr, orI, if_neg (nI_m1 (by omega))])), ⟨x3, (by first | (rw [a_out, if_neg c_4, aM_orN, orM, hrr, if_pos rfl, ex3]; refine jm_fnd ?_ 3; rw [ex2, exc26]; simp only [ys_at, ys_ys, ys_c0]; exact jm_t _ _ _ (psn_1 _ _ 1 (by decide))) | (rw [a_out, if_neg c_4, aM_orN, hrr, orM, if_neg (nI_m1 (by omega))]; rw [ex3, ex2, exc26]; simp only [ys_at, ys_ys, ys_c0]; exact jm_t _ _ _ (psn_1 _ _ 1 (by decide)))), by rw [ht]; exact hI⟩, hS.F ht⟩) hS.2.2 dX13_out_81
          · skip
            have hrr := rh_hit hp hi (by rw [hf] at c_69; exact decide_eq_true (ak_1 c_69))
            refine lv_iload_n hx hb dX13_out_72 rfl (lv_at hl 3 rfl) ?_
            refine lv_goto (tgt := 81) hx hb dX13_out_73 (by decide) ?_
            exact W.iret hx hb hr (fun t ht _ => ⟨rI (by first | (rw [a_out, if_neg c_4, aR_orN, orI, hrr]; rfl) | (rw [a_out, if_neg c_4, aR_orN, hrr, orI, if_neg (nI_m1 (by omega))])), ⟨x2, (by first | (rw [a_out, if_neg c_4, aM_orN, orM, hrr, if_pos rfl, ex2]; refine jm_fnd ?_ 3; rw [exc26]; simp only [ys_at, ys_ys, ys_c0]; exact jm_t _ _ _ (psn_1 _ _ 1 (by decide))) | (rw [a_out, if_neg c_4, aM_orN, hrr, orM, if_neg (nI_m1 (by omega))]; rw [ex2, exc26]; simp only [ys_at, ys_ys, ys_c0]; exact jm_t _ _ _ (psn_1 _ _ 1 (by decide)))), by rw [ht]; exact hI⟩, hS.F ht⟩) hS.2.2 dX13_out_81
        · skip
          have c_30 : ¬ 200 ≤ i := fun z => c_30 ((nle (a := 200) (b := i) (rfl) (rfl) (by omega) (by omega)).mpr z)
          refine lv_aload_n hx hb dX13_out_33 rfl (lv_at hl 0 rfl) ?_
          refine lv_iload_n hx hb dX13_out_34 rfl (lv_at hl 1 rfl) ?_
          refine c_r (k_V (As := [.int t]) (rest := []) F (k_X13_areKnown xc26 (hO_xc26) t) (cwV 1 hts (lw_V q1415 q1417 qs71 q107 q1418) rfl rfl rfl (by decide +kernel) ⟨Nat.le_of_ble_eq_true rfl, Nat.le_of_ble_eq_true rfl⟩) hI hK (hw.recv hI hK (mf_main) rfl) rfl hl.1 rfl (Nat.le_of_ble_eq_true rfl) dX13_out_35 ⟨Nat.le_of_ble_eq_true rfl, Nat.le_of_ble_eq_true rfl⟩) ?_
          refine lv_if_ne (tgt := 51) hx hb dX13_out_38 (by decide) (fun c_38 => ?_) (fun c_38 => ?_)
          · skip
            refine lv_aload_n hx hb dX13_out_51 rfl (lv_at hl 0 rfl) ?_
            refine lv_iload_n hx hb dX13_out_52 rfl (lv_at hl 1 rfl) ?_
            refine c_r (k_V (As := [.int t]) (rest := []) F (k_X13_areKnown xc26 (hO_xc26) t) (cwV 1 hts (lw_V q1415 q1417 qs71 q107 q1418) rfl rfl rfl (by decide +kernel) ⟨Nat.le_of_ble_eq_true rfl, Nat.le_of_ble_eq_true rfl⟩) hI hK (hw.recv hI hK (mf_main) rfl) rfl hl.1 rfl (Nat.le_of_ble_eq_true rfl) dX13_out_53 ⟨Nat.le_of_ble_eq_true rfl, Nat.le_of_ble_eq_true rfl⟩) ?_
            refine lv_istore_n (lv' := [(3, .int (akI (xc26.1 0) t)), (0, .ref (L 0)), (1, .int t), (2, .int (nI i))]) hx hb dX13_out_56 rfl hl (by decide) rfl (fun ls hl => ?_)
            refine lv_aload_n hx hb dX13_out_57 rfl (lv_at hl 1 rfl) ?_
            refine r_get (C := RX13) (T := TX13) (N := 18) hx hb hts in_X13 hown hK hI (mf_main) rfl 2 (by decide) (hts _ q1166) (fun _ h => h) rfl dX13_out_58 ?_
            refine lv_aload_n hx hb dX13_out_61 rfl (lv_at hl 1 rfl) ?_
            refine r_get (C := RX13) (T := TX13) (N := 18) hx hb hts in_X13 hown hK hI (mf_main) rfl 0 (by decide) (hts _ q1164) (fun _ h => h) rfl dX13_out_62 ?_
            refine c_m (k_SI (As := [.ref (L 3), .ref (L 1)]) (rest := []) F (k_X13_copies (cf' := cfM D L (ys xc26 0 (u2 (xc26.1 2) 1 1 (xc26.1 0 1 1)))) mf_aside mf_d (by decide) (ms_w (w := 0) (by decide) (mu_gone _ _) (by rw [u2_at, if_pos ⟨rfl, rfl⟩]))) (va_cwS 2 hts (lw_S q1391 q1392 q107 q1393) rfl rfl rfl (by decide +kernel) ⟨Nat.le_of_ble_eq_true rfl, Nat.le_of_ble_eq_true rfl⟩) hI hK rfl hl.1 rfl (Nat.le_of_ble_eq_true rfl) dX13_out_65 ⟨Nat.le_of_ble_eq_true rfl, Nat.le_of_ble_eq_true rfl⟩) hS (fun H1 locs1 hI hS => ?_)
            obtain ⟨x4, ex4⟩ : ∃ z, z = ys xc26 0 (u2 (xc26.1 2) 1 1 (xc26.1 0 1 1)) := ⟨_, rfl⟩
            rw [← ex4] at hI
            refine lv_iload_n hx hb dX13_out_68 rfl (lv_at hl 0 rfl) ?_
            refine lv_if_eq (tgt := 76) hx hb dX13_out_69 (by decide) (fun c_69 => ?_) (fun c_69 => ?_)
            · skip
              have hrr := rh_miss hp hi (by first | omega | (exfalso; rw [hf] at c_38 c_69; exact c_38 c_69)) (by rw [hf] at c_69; exact decide_eq_false (ak_0 c_69))
              refine lv_aload_n hx hb dX13_out_76 rfl (lv_at hl 1 rfl) ?_
              refine lv_iconst (v := 3) hx hb dX13_out_77 (by decide) ?_
              refine c_m (k_V (As := [.int 3]) (rest := []) F (k_X13_finds x4 3 (by decide)) (cwV 1 hts (lw_V q1238 q1240 qs47 q107 q1241) rfl rfl rfl (by decide +kernel) ⟨Nat.le_of_ble_eq_true rfl, Nat.le_of_ble_eq_true rfl⟩) hI hK (hw.recv hI hK (mf_main) rfl) rfl hl.1 rfl (Nat.le_of_ble_eq_true rfl) dX13_out_78 ⟨Nat.le_of_ble_eq_true rfl, Nat.le_of_ble_eq_true rfl⟩) hS (fun H1 locs1 hI hS => ?_)
              obtain ⟨x5, ex5⟩ : ∃ z, z = (fndM x4 3) := ⟨_, rfl⟩
              rw [← ex5] at hI
              exact W.iret hx hb hr (fun t ht _ => ⟨rI (by first | (rw [a_out, if_neg c_4, aR_orN, orI, hrr]; rfl) | (rw [a_out, if_neg c_4, aR_orN, hrr, orI, if_neg (nI_m1 (by omega))])), ⟨x5, (by first | (rw [a_out, if_neg c_4, aM_orN, orM, hrr, if_pos rfl, ex5]; refine jm_fnd ?_ 3; rw [ex4, exc26]; simp only [ys_at, ys_ys, ys_c0]; exact jm_t _ _ _ (psn_1 _ _ 1 (by decide))) | (rw [a_out, if_neg c_4, aM_orN, hrr, orM, if_neg (nI_m1 (by omega))]; rw [ex5, ex4, exc26]; simp only [ys_at, ys_ys, ys_c0]; exact jm_t _ _ _ (psn_1 _ _ 1 (by decide)))), by rw [ht]; exact hI⟩, hS.F ht⟩) hS.2.2 dX13_out_81
            · skip
              have hrr := rh_hit hp hi (by rw [hf] at c_69; exact decide_eq_true (ak_1 c_69))
              refine lv_iload_n hx hb dX13_out_72 rfl (lv_at hl 3 rfl) ?_
              refine lv_goto (tgt := 81) hx hb dX13_out_73 (by decide) ?_
              exact W.iret hx hb hr (fun t ht _ => ⟨rI (by first | (rw [a_out, if_neg c_4, aR_orN, orI, hrr]; rfl) | (rw [a_out, if_neg c_4, aR_orN, hrr, orI, if_neg (nI_m1 (by omega))])), ⟨x4, (by first | (rw [a_out, if_neg c_4, aM_orN, orM, hrr, if_pos rfl, ex4]; refine jm_fnd ?_ 3; rw [exc26]; simp only [ys_at, ys_ys, ys_c0]; exact jm_t _ _ _ (psn_1 _ _ 1 (by decide))) | (rw [a_out, if_neg c_4, aM_orN, hrr, orM, if_neg (nI_m1 (by omega))]; rw [ex4, exc26]; simp only [ys_at, ys_ys, ys_c0]; exact jm_t _ _ _ (psn_1 _ _ 1 (by decide)))), by rw [ht]; exact hI⟩, hS.F ht⟩) hS.2.2 dX13_out_81
          · skip
            refine lv_aload_n hx hb dX13_out_41 rfl (lv_at hl 0 rfl) ?_
            refine c_m (k_V (As := []) (rest := []) F (k_X13_dayGoes xc26 (hO_xc26) (hd_xc26)) (cwV 0 hts (lw_V q1347 q1349 qs62 q107 q1350) rfl rfl rfl (by decide +kernel) ⟨Nat.le_of_ble_eq_true rfl, Nat.le_of_ble_eq_true rfl⟩) hI hK (hw.recv hI hK (mf_main) rfl) rfl hl.1 rfl (Nat.le_of_ble_eq_true rfl) dX13_out_42 ⟨Nat.le_of_ble_eq_true rfl, Nat.le_of_ble_eq_true rfl⟩) hS (fun H1 locs1 hI hS => ?_)
            obtain ⟨x6, ex6⟩ : ∃ z, z = ys xc26 0 (psw (xc26.1 0)) := ⟨_, rfl⟩
            rw [← ex6] at hI
            refine lv_iinc (v := (nI (i + 1))) (lv' := [(2, .int (nI (i + 1))), (0, .ref (L 0)), (1, .int t)]) hx hb dX13_out_45 hl (k := 2) rfl (nI_1 _) (by decide) rfl (fun ls hl => ?_)
            refine lv_goto (tgt := 26) hx hb dX13_out_48 (by decide) ?_
            exact ih26 (i + 1) (by omega) (by rw [hp, fstB_go (by rw [hf] at c_38; exact decide_eq_false (ak_0 c_38)) (by omega)]; rfl) (by omega) (nI (i + 1)) (rfl) x6 (by rw [ex6, exc26]; simp only [ys_at, ys_ys]; rfl) _ _ hI hS ls (lv_sub hl [1, 2, 0] rfl)
    exact lp26 (_ + 1) (0) (by decide) (rfl) (Nat.lt_succ_self _) 0 (rfl) x1 (by rw [ex1]; exact (ys_20 x).symm) _ _ hI hS ls (lv_sub hl [1, 2, 0] rfl)
  · skip
    refine lv_aload_n hx hb dX13_out_7 rfl (lv_at hl 0 rfl) ?_
    refine lv_iconst (v := 0) hx hb dX13_out_8 (by decide) ?_
    refine c_m (k_V (As := [.int 0]) (rest := []) F (k_X13_finds x 0 (by decide)) (cwV 1 hts (lw_V q1238 q1240 qs47 q107 q1241) rfl rfl rfl (by decide +kernel) ⟨Nat.le_of_ble_eq_true rfl, Nat.le_of_ble_eq_true rfl⟩) hI hK (hw.recv hI hK (mf_main) rfl) rfl hl.1 rfl (Nat.le_of_ble_eq_true rfl) dX13_out_9 ⟨Nat.le_of_ble_eq_true rfl, Nat.le_of_ble_eq_true rfl⟩) hS (fun H1 locs1 hI hS => ?_)
    obtain ⟨x7, ex7⟩ : ∃ z, z = (fndM x 0) := ⟨_, rfl⟩
    rw [← ex7] at hI
    exact W.iret hx hb hr (fun t ht _ => ⟨rI (by first | (simp [a_out, aR, c_4]; done)), ⟨x7, (by first | (refine jm_eq ?_; rw [ex7]; simp [a_out, aM, c_4]; done)), by rw [ht]; exact hI⟩, hS.F ht⟩) hS.2.2 dX13_out_12
theorem k_X13_bestOf {l : Launch} {D : va_G} {L : Nat → Nat} {A : Nat → Prop} (x : mst) (hO : wOk (x.1 0)) (hd : isN (x.1 0 1 2) 10000) (k r most n : Nat) (hk : k < 8) (hrm : (r = 0 ∧ most ≤ 6) ∨ (r = 1 ∧ most ≤ 5)) (hn : n ≤ 1000) : Met l yX13_bestOf (ws_ yX13_bestOf cX13_bestOf 9 (some .int)) ({ frames := 8, cells := 0, slots := 0, locals := 181 } : Room) (va_Pc [.ref (L 0), .int (nI k), .int (nI r), .int (nI most), .int (nI n)] (pI D (cfM D L x) A)) (jMQ D L x A (some (.int (mbI (x.1 0) k r (most + 1) n)))) 0 0 A := by
  refine met_I (by decide) rfl (Nat.le_of_ble_eq_true rfl) ?_
  intro p e s m below meth c ls hx hb hr hml hown hts hlocks hl hI hK
  have F : CallFix p m c cX13_bestOf 9 s _ lw_all RX13 := ⟨hx, hb, hml, hown, hts⟩
  have hl : lv_has ls 9 [(0, .ref (L 0)), (1, .int (nI k)), (2, .int (nI r)), (3, .int (nI most)), (4, .int (nI n))] := hl
  have hS : va_S A s.heap s.heap [] := va_S.rf
  refine lv_aload_n hx hb dX13_bestOf_0 rfl (lv_at hl 0 rfl) ?_
  refine r_get (C := RX13) (T := TX13) (N := 18) hx hb hts in_X13 hown hK hI (mf_main) rfl 0 (by decide) (hts _ q1164) (fun _ h => h) rfl dX13_bestOf_1 ?_
  refine lv_aload_n hx hb dX13_bestOf_4 rfl (lv_at hl 0 rfl) ?_
  refine r_get (C := RX13) (T := TX13) (N := 18) hx hb hts in_X13 hown hK hI (mf_main) rfl 2 (by decide) (hts _ q1166) (fun _ h => h) rfl dX13_bestOf_5 ?_
  refine c_m (k_SI (As := [.ref (L 1), .ref (L 3)]) (rest := []) F (k_X13_copies (cf' := cfM D L (ys x 2 (x.1 0))) mf_d mf_aside (by decide) (ms_wn (w := 2) (by decide) (by decide) rfl)) (va_cwS 2 hts (lw_S q1391 q1392 q107 q1393) rfl rfl rfl (by decide +kernel) ⟨Nat.le_of_ble_eq_true rfl, Nat.le_of_ble_eq_true rfl⟩) hI hK rfl hl.1 rfl (Nat.le_of_ble_eq_true rfl) dX13_bestOf_8 ⟨Nat.le_of_ble_eq_true rfl, Nat.le_of_ble_eq_true rfl⟩) hS (fun H1 locs1 hI hS => ?_)
  obtain ⟨x1, ex1⟩ : ∃ z, z = ys x 2 (x.1 0) := ⟨_, rfl⟩
  rw [← ex1] at hI
  refine lv_iconst (v := 0) hx hb dX13_bestOf_11 (by decide) ?_
  refine lv_istore (lv' := [(5, .int 0), (0, .ref (L 0)), (1, .int (nI k)), (2, .int (nI r)), (3, .int (nI most)), (4, .int (nI n))]) hx hb dX13_bestOf_12 hl (by decide) rfl (fun ls hl => ?_)
  refine lv_iconst (v := (-1)) hx hb dX13_bestOf_14 (by decide) ?_
  refine lv_istore (lv' := [(6, .int (-1)), (5, .int 0), (0, .ref (L 0)), (1, .int (nI k)), (2, .int (nI r)), (3, .int (nI most)), (4, .int (nI n))]) hx hb dX13_bestOf_15 hl (by decide) rfl (fun ls hl => ?_)
  refine lv_iconst (v := 0) hx hb dX13_bestOf_17 (by decide) ?_
  refine lv_istore (lv' := [(7, .int 0), (6, .int (-1)), (5, .int 0), (0, .ref (L 0)), (1, .int (nI k)), (2, .int (nI r)), (3, .int (nI most)), (4, .int (nI n))]) hx hb dX13_bestOf_18 hl (by decide) rfl (fun ls hl => ?_)
  have lp20 : ∀ (fuel : Nat) (i : Nat), (i ≤ most + 1) → most + 1 - i < fuel → ∀ (v5 : Int32) (v6 : Int32) (v7 : Int32), v5 = (itr (mbS (x.1 0) k r n) (0, -1) i).1 → v6 = (itr (mbS (x.1 0) k r n) (0, -1) i).2 → v7 = nI i → ∀ (xc20 : mst), xc20 = ys (ys x 2 (x.1 0)) 0 (x.1 0) → ∀ (H : Heap) (locs : List Loc), hw D (cfM D L xc20) A H → va_S A s.heap H locs → ∀ (ls : Array Slot), lv_has ls 9 [(0, .ref (L 0)), (1, .int (nI k)), (2, .int (nI r)), (3, .int (nI most)), (4, .int (nI n)), (5, .int v5), (6, .int v6), (7, .int v7)] → W p l e ({ frames := 8, cells := 0, slots := 0, locals := 181 } : Room) s m ([.ref (L 0), .int (nI k), .int (nI r), .int (nI most), .int (nI n)] : List Value).toArray below meth c H locs 0 0 (MQ below (jMQ D L x A (some (.int (mbI (x.1 0) k r (most + 1) n)))) ([.ref (L 0), .int (nI k), .int (nI r), .int (nI most), .int (nI n)] : List Value).toArray s 0 0 A) (F0 m 20 ls []) := by
    intro fuel
    induction fuel with
    | zero => intro i hi hf; exact absurd hf (Nat.not_lt_zero _)
    | succ fuel ih20 =>
      intro i hi hf20 v5 v6 v7 e5 e6 e7  xc20 exc20 H locs hI hS ls hl
      subst e5 e6 e7
      refine lv_iload hx hb dX13_bestOf_20 (lv_at hl 7 rfl) ?_
      refine lv_iload_n hx hb dX13_bestOf_22 rfl (lv_at hl 3 rfl) ?_
      refine lv_icmp_gt (tgt := 70) hx hb dX13_bestOf_23 (by decide) (fun c_23 => ?_) (fun c_23 => ?_)
      · skip
        have c_23 : most < i := (nlt (a := most) (b := i) (rfl) (rfl) (by omega) (by omega)).mp c_23
        refine lv_iload hx hb dX13_bestOf_70 (lv_at hl 5 rfl) ?_
        exact W.iret hx hb hr (fun t ht _ => ⟨rI (by rw [mbI, show i = most + 1 by omega]), ⟨xc20, (by rw [exc20]; exact jm_ag _ _), by rw [ht]; exact hI⟩, hS.F ht⟩) hS.2.2 dX13_bestOf_72
      · skip
        have c_23 : ¬ most < i := fun z => c_23 ((nlt (a := most) (b := i) (rfl) (rfl) (by omega) (by omega)).mpr z)
        refine lv_aload_n hx hb dX13_bestOf_26 rfl (lv_at hl 0 rfl) ?_
        refine lv_iload_n hx hb dX13_bestOf_27 rfl (lv_at hl 1 rfl) ?_
        refine lv_iload_n hx hb dX13_bestOf_28 rfl (lv_at hl 2 rfl) ?_
        refine lv_iload hx hb dX13_bestOf_29 (lv_at hl 7 rfl) ?_
        refine c_m (k_V (As := [.int (nI k), .int (nI r), .int (nI i)]) (rest := []) F (k_X13_sets xc20 (nI k) (nI r) k r (nI i) (by omega) (by omega) rfl rfl) (cwV 3 hts (lw_V q1281 q1283 qs54 q107 q1284) rfl rfl rfl (by decide +kernel) ⟨Nat.le_of_ble_eq_true rfl, Nat.le_of_ble_eq_true rfl⟩) hI hK (hw.recv hI hK (mf_main) rfl) rfl hl.1 rfl (Nat.le_of_ble_eq_true rfl) dX13_bestOf_31 ⟨Nat.le_of_ble_eq_true rfl, Nat.le_of_ble_eq_true rfl⟩) hS (fun H1 locs1 hI hS => ?_)
        obtain ⟨x2, ex2⟩ : ∃ z, z = ys xc20 0 (u2 (xc20.1 0) (2 + r) k (nI i)) := ⟨_, rfl⟩
        rw [← ex2] at hI
        have hx1 : x2.1 0 = u2 (x.1 0) (2 + r) k (nI i) := by rw [ex2, ys_at, exc20, ys_at]
        have hO_x2 : wOk (x2.1 0) := by rw [hx1]; exact wOk_mr (many := most + 1) hO (by omega) (by omega)
        have hd_x2 : isN (x2.1 0 1 2) 10000 := by rw [hx1, u2_ne (by omega)]; exact hd
        have hx2 : x2.1 2 = x.1 0 := by rw [ex2, ys_ne (by decide), exc20, ys_c0]
        have hO_hx := hO_x2
        have hd_hx := hd_x2
        refine lv_aload_n hx hb dX13_bestOf_34 rfl (lv_at hl 0 rfl) ?_
        refine lv_iload hx hb dX13_bestOf_35 (lv_at hl 4 rfl) ?_
        refine lv_bipush (v := 49) hx hb dX13_bestOf_37 (by decide) ?_
        refine lv_iload_n hx hb dX13_bestOf_39 rfl (lv_at hl 1 rfl) ?_
        refine lv_iadd hx hb dX13_bestOf_40 ?_
        refine c_m (k_V (As := [.int (nI n), .int ((49 : Int32) + (nI k))]) (rest := []) F (k_X13_behind x2 (hO_x2) (hd_x2) k 5 n ((49 : Int32) + (nI k)) (by omega) (by omega) (by omega) (na_add (rfl) (rfl))) (cwV 2 hts (lw_V q1394 q1396 qs70 q107 q1397) rfl rfl rfl (by decide +kernel) ⟨Nat.le_of_ble_eq_true rfl, Nat.le_of_ble_eq_true rfl⟩) hI hK (hw.recv hI hK (mf_main) rfl) rfl hl.1 rfl (Nat.le_of_ble_eq_true rfl) dX13_bestOf_41 ⟨Nat.le_of_ble_eq_true rfl, Nat.le_of_ble_eq_true rfl⟩) hS (fun H1 locs1 hI hS => ?_)
        obtain ⟨x3, ex3⟩ : ∃ z, z = ys x2 0 (u2 (x2.1 2) 1 1 (x2.1 0 1 1)) := ⟨_, rfl⟩
        rw [← ex3] at hI
        refine c_r (k_S (As := [.int (tbI (x2.1 0) k 5 n)]) (rest := []) F (k_X13_ones (tbI (x2.1 0) k 5 n) ((wOk_psn hO_hx hd_hx n (by omega)).2.1 k (by omega) |>.2.2.2.2.2.1)) (va_cwS 1 hts (lw_S q1363 q1364 q107 q1365) rfl rfl rfl (by decide +kernel) ⟨Nat.le_of_ble_eq_true rfl, Nat.le_of_ble_eq_true rfl⟩) rfl hl.1 rfl (Nat.le_of_ble_eq_true rfl) dX13_bestOf_44 ⟨Nat.le_of_ble_eq_true rfl, Nat.le_of_ble_eq_true rfl⟩) ?_
        refine lv_istore (lv' := [(8, .int (bcI (tbI (x2.1 0) k 5 n))), (0, .ref (L 0)), (1, .int (nI k)), (2, .int (nI r)), (3, .int (nI most)), (4, .int (nI n)), (5, .int ((itr (mbS (x.1 0) k r n) (0, -1) i).1)), (6, .int ((itr (mbS (x.1 0) k r n) (0, -1) i).2)), (7, .int (nI i))]) hx hb dX13_bestOf_47 hl (by decide) rfl (fun ls hl => ?_)
        refine lv_iload hx hb dX13_bestOf_49 (lv_at hl 0 rfl) ?_
        refine lv_iload hx hb dX13_bestOf_51 (lv_at hl 7 rfl) ?_
        refine lv_icmp_le (tgt := 64) hx hb dX13_bestOf_53 (by decide) (fun c_53 => ?_) (fun c_53 => ?_)
        · skip
          have c_53 := Int32.not_lt.mpr c_53
          refine lv_iinc (v := (nI (i + 1))) (lv' := [(7, .int (nI (i + 1))), (8, .int (bcI (tbI (x2.1 0) k 5 n))), (0, .ref (L 0)), (1, .int (nI k)), (2, .int (nI r)), (3, .int (nI most)), (4, .int (nI n)), (5, .int ((itr (mbS (x.1 0) k r n) (0, -1) i).1)), (6, .int ((itr (mbS (x.1 0) k r n) (0, -1) i).2))]) hx hb dX13_bestOf_64 hl (k := 8) rfl (nI_1 _) (by decide) rfl (fun ls hl => ?_)
          refine lv_goto (tgt := 20) hx hb dX13_bestOf_67 (by decide) ?_
          exact ih20 (i + 1) (by omega) (by omega) ((itr (mbS (x.1 0) k r n) (0, -1) i).1) ((itr (mbS (x.1 0) k r n) (0, -1) i).2) (nI (i + 1)) (by rw [hx1] at c_53; simp only [itr_s, mbS, if_neg c_23, if_neg c_53]) (by rw [hx1] at c_53; (try rw [hx1]); simp only [itr_s, mbS, mxI, if_neg c_23, if_neg c_53]) (rfl) x3 (by rw [ex3, ex2, exc20]; simp only [ys_at, ys_ys, ys_c0]; rw [u2_ne (show 1 ≠ 2 + r by omega), u2_self]) _ _ hI hS ls (lv_sub hl [2, 3, 4, 5, 6, 7, 8, 0] rfl)
        · skip
          have c_53 := Int32.not_le.mp c_53
          refine lv_iload hx hb dX13_bestOf_56 (lv_at hl 8 rfl) ?_
          refine lv_istore (lv' := [(5, .int (nI i)), (8, .int (bcI (tbI (x2.1 0) k 5 n))), (0, .ref (L 0)), (1, .int (nI k)), (2, .int (nI r)), (3, .int (nI most)), (4, .int (nI n)), (6, .int ((itr (mbS (x.1 0) k r n) (0, -1) i).2)), (7, .int (nI i))]) hx hb dX13_bestOf_58 hl (by decide) rfl (fun ls hl => ?_)
          refine lv_iload hx hb dX13_bestOf_60 (lv_at hl 1 rfl) ?_
          refine lv_istore (lv' := [(6, .int (bcI (tbI (x2.1 0) k 5 n))), (5, .int (nI i)), (8, .int (bcI (tbI (x2.1 0) k 5 n))), (0, .ref (L 0)), (1, .int (nI k)), (2, .int (nI r)), (3, .int (nI most)), (4, .int (nI n)), (7, .int (nI i))]) hx hb dX13_bestOf_62 hl (by decide) rfl (fun ls hl => ?_)
          refine lv_iinc (v := (nI (i + 1))) (lv' := [(7, .int (nI (i + 1))), (6, .int (bcI (tbI (x2.1 0) k 5 n))), (5, .int (nI i)), (8, .int (bcI (tbI (x2.1 0) k 5 n))), (0, .ref (L 0)), (1, .int (nI k)), (2, .int (nI r)), (3, .int (nI most)), (4, .int (nI n))]) hx hb dX13_bestOf_64 hl (k := 8) rfl (nI_1 _) (by decide) rfl (fun ls hl => ?_)
          refine lv_goto (tgt := 20) hx hb dX13_bestOf_67 (by decide) ?_
          exact ih20 (i + 1) (by omega) (by omega) (nI i) (bcI (tbI (x2.1 0) k 5 n)) (nI (i + 1)) (by rw [hx1] at c_53; simp only [itr_s, mbS, if_neg c_23, if_pos c_53]) (by rw [hx1] at c_53; (try rw [hx1]); simp only [itr_s, mbS, mxI, if_neg c_23, if_pos c_53]) (rfl) x3 (by rw [ex3, ex2, exc20]; simp only [ys_at, ys_ys, ys_c0]; rw [u2_ne (show 1 ≠ 2 + r by omega), u2_self]) _ _ hI hS ls (lv_sub hl [4, 5, 6, 7, 8, 2, 1, 0] rfl)
  exact lp20 (_ + 1) (0) (Nat.zero_le _) (Nat.lt_succ_self _) 0 (-1) 0 (rfl) (rfl) (rfl) x1 (by rw [ex1]; exact (ys_20 x).symm) _ _ hI hS ls (lv_sub hl [3, 4, 5, 6, 7, 2, 1, 0] rfl)
theorem k_X13_leave {l : Launch} {D : va_G} {L : Nat → Nat} {A : Nat → Prop} (x : mst) (hO : wOk (x.1 0)) (hd : isN (x.1 0 1 2) 10000) (g n : Int32) : Met l yX13_leave (ws_ yX13_leave cX13_leave 3 (some .int)) ({ frames := 9, cells := 0, slots := 0, locals := 209 } : Room) (va_Pc [.ref (L 0), .int g, .int n] (pI D (cfM D L x) A)) (jMQ D L (aM x (a_leave (x.1 0) g n)) A (some (.int (aR (a_leave (x.1 0) g n))))) 0 0 A := by
  refine met_I (by decide) rfl (Nat.le_of_ble_eq_true rfl) ?_
  intro p e s m below meth c ls hx hb hr hml hown hts hlocks hl hI hK
  have F : CallFix p m c cX13_leave 3 s _ lw_all RX13 := ⟨hx, hb, hml, hown, hts⟩
  have hl : lv_has ls 3 [(0, .ref (L 0)), (1, .int g), (2, .int n)] := hl
  have hS : va_S A s.heap s.heap [] := va_S.rf
  obtain ⟨nn, hn, h8⟩ : ∃ n, x.1 0 1 0 = nI n ∧ n ≤ 8 := ⟨_, hO.n⟩
  have hN : wN (x.1 0) = nn := by unfold wN; rw [hn, nI_clamp (by omega)]
  refine lv_aload_n hx hb dX13_leave_0 rfl (lv_at hl 0 rfl) ?_
  refine lv_iload_n hx hb dX13_leave_1 rfl (lv_at hl 1 rfl) ?_
  refine c_r (k_V (As := [.int g]) (rest := []) F (k_X13_isGlove x g) (cwV 1 hts (lw_V q1289 q1291 qs55 q107 q1292) rfl rfl rfl (by decide +kernel) ⟨Nat.le_of_ble_eq_true rfl, Nat.le_of_ble_eq_true rfl⟩) hI hK (hw.recv hI hK (mf_main) rfl) rfl hl.1 rfl (Nat.le_of_ble_eq_true rfl) dX13_leave_2 ⟨Nat.le_of_ble_eq_true rfl, Nat.le_of_ble_eq_true rfl⟩) ?_
  refine lv_if_eq (tgt := 31) hx hb dX13_leave_5 (by decide) (fun c_5 => ?_) (fun c_5 => ?_)
  · skip
    refine lv_aload_n hx hb dX13_leave_31 rfl (lv_at hl 0 rfl) ?_
    refine lv_iconst (v := 0) hx hb dX13_leave_32 (by decide) ?_
    refine c_m (k_V (As := [.int 0]) (rest := []) F (k_X13_finds x 0 (by decide)) (cwV 1 hts (lw_V q1238 q1240 qs47 q107 q1241) rfl rfl rfl (by decide +kernel) ⟨Nat.le_of_ble_eq_true rfl, Nat.le_of_ble_eq_true rfl⟩) hI hK (hw.recv hI hK (mf_main) rfl) rfl hl.1 rfl (Nat.le_of_ble_eq_true rfl) dX13_leave_33 ⟨Nat.le_of_ble_eq_true rfl, Nat.le_of_ble_eq_true rfl⟩) hS (fun H1 locs1 hI hS => ?_)
    obtain ⟨x1, ex1⟩ : ∃ z, z = (fndM x 0) := ⟨_, rfl⟩
    rw [← ex1] at hI
    exact W.iret hx hb hr (fun t ht _ => ⟨rI (by first | (rw [hA]; rfl) | (simp [a_leave, aoI, aR, c_5]; done)), ⟨x1, (by first | (rw [hA, aM, ys_self]; assumption) | (refine jm_eq ?_; rw [ex1]; simp [a_leave, aoI, aM, c_5]; done)), by rw [ht]; exact hI⟩, hS.F ht⟩) hS.2.2 dX13_leave_36
  · skip
    refine lv_iload_n hx hb dX13_leave_8 rfl (lv_at hl 2 rfl) ?_
    refine lv_i2l (v := (n : Int32).toInt64) hx hb dX13_leave_9 rfl ?_
    refine lv_lconst (v := 0) hx hb dX13_leave_10 (by decide) ?_
    refine lv_ldc2 (v := 60) hx hb hown (hts _ q1341) dX13_leave_11 ?_
    refine c_r (k_S (As := [.long ((n : Int32).toInt64), .long 0, .long 60]) (rest := []) F (k_X13_in n 0 60 ((n : Int32).toInt64 : Int64) (0 : Int64) (60 : Int64) rfl (by decide) (by decide)) (va_cwS 3 hts (lw_S q1227 q1228 q107 q1229) rfl rfl rfl (by decide +kernel) ⟨Nat.le_of_ble_eq_true rfl, Nat.le_of_ble_eq_true rfl⟩) rfl hl.1 rfl (Nat.le_of_ble_eq_true rfl) dX13_leave_14 ⟨Nat.le_of_ble_eq_true rfl, Nat.le_of_ble_eq_true rfl⟩) ?_
    refine lv_if_eq (tgt := 31) hx hb dX13_leave_17 (by decide) (fun c_17 => ?_) (fun c_17 => ?_)
    · skip
      refine lv_aload_n hx hb dX13_leave_31 rfl (lv_at hl 0 rfl) ?_
      refine lv_iconst (v := 0) hx hb dX13_leave_32 (by decide) ?_
      refine c_m (k_V (As := [.int 0]) (rest := []) F (k_X13_finds x 0 (by decide)) (cwV 1 hts (lw_V q1238 q1240 qs47 q107 q1241) rfl rfl rfl (by decide +kernel) ⟨Nat.le_of_ble_eq_true rfl, Nat.le_of_ble_eq_true rfl⟩) hI hK (hw.recv hI hK (mf_main) rfl) rfl hl.1 rfl (Nat.le_of_ble_eq_true rfl) dX13_leave_33 ⟨Nat.le_of_ble_eq_true rfl, Nat.le_of_ble_eq_true rfl⟩) hS (fun H1 locs1 hI hS => ?_)
      obtain ⟨x2, ex2⟩ : ∃ z, z = (fndM x 0) := ⟨_, rfl⟩
      rw [← ex2] at hI
      exact W.iret hx hb hr (fun t ht _ => ⟨rI (by first | (rw [hA]; rfl) | (simp [a_leave, aoI, aR, c_5, c_17]; done)), ⟨x2, (by first | (rw [hA, aM, ys_self]; assumption) | (refine jm_eq ?_; rw [ex2]; simp [a_leave, aoI, aM, c_5, c_17]; done)), by rw [ht]; exact hI⟩, hS.F ht⟩) hS.2.2 dX13_leave_36
    · skip
      obtain ⟨k, hk, eg⟩ := isGl_to hn h8 c_5
      have eg2 : g.toNatClampNeg = k := by rw [eg, nI_clamp (by omega)]
      obtain ⟨j, hj, en⟩ := inI_to (b := 60) rfl (by decide) c_17
      have en2 : n.toNatClampNeg = j := by rw [en, nI_clamp (by omega)]
      have hA : a_leave (x.1 0) g n = .inr (mbI (x.1 0) k 1 6 j, x.1 0) := by simp only [a_leave, aoI, if_neg c_5, if_neg c_17, eg2, en2]; rfl
      subst eg
      subst en
      refine lv_aload_n hx hb dX13_leave_20 rfl (lv_at hl 0 rfl) ?_
      refine lv_iload_n hx hb dX13_leave_21 rfl (lv_at hl 1 rfl) ?_
      refine lv_iconst (v := 1) hx hb dX13_leave_22 (by decide) ?_
      refine lv_iconst (v := 5) hx hb dX13_leave_23 (by decide) ?_
      refine lv_iload_n hx hb dX13_leave_24 rfl (lv_at hl 2 rfl) ?_
      refine c_jm (k_V (As := [.int (nI k), .int 1, .int 5, .int (nI j)]) (rest := []) F (k_X13_bestOf x (hO) (hd) k 1 5 j (by omega) (by omega) (by omega)) (cwV 4 hts (lw_V q1423 q1425 qs72 q107 q1426) rfl rfl rfl (by decide +kernel) ⟨Nat.le_of_ble_eq_true rfl, Nat.le_of_ble_eq_true rfl⟩) hI hK (hw.recv hI hK (mf_main) rfl) rfl hl.1 rfl (Nat.le_of_ble_eq_true rfl) dX13_leave_25 ⟨Nat.le_of_ble_eq_true rfl, Nat.le_of_ble_eq_true rfl⟩) hS (fun x3 H1 locs1 ex3 hI hS => ?_)
      refine lv_goto (tgt := 36) hx hb dX13_leave_28 (by decide) ?_
      exact W.iret hx hb hr (fun t ht _ => ⟨rI (by first | (rw [hA]; rfl) | (simp [a_leave, aoI, aR, c_5, c_17]; done)), ⟨x3, (by first | (rw [hA, aM, ys_self]; assumption) | (refine jm_eq ?_; rw [ex3]; simp [a_leave, aoI, aM, c_5, c_17]; done)), by rw [ht]; exact hI⟩, hS.F ht⟩) hS.2.2 dX13_leave_36
theorem k_X13_kindFor {l : Launch} {D : va_G} {L : Nat → Nat} {A : Nat → Prop} (x : mst) (hO : wOk (x.1 0)) (hd : isN (x.1 0 1 2) 10000) (g n : Int32) : Met l yX13_kindFor (ws_ yX13_kindFor cX13_kindFor 3 (some .int)) ({ frames := 9, cells := 0, slots := 0, locals := 209 } : Room) (va_Pc [.ref (L 0), .int g, .int n] (pI D (cfM D L x) A)) (jMQ D L (aM x (a_kindFor (x.1 0) g n)) A (some (.int (aR (a_kindFor (x.1 0) g n))))) 0 0 A := by
  refine met_I (by decide) rfl (Nat.le_of_ble_eq_true rfl) ?_
  intro p e s m below meth c ls hx hb hr hml hown hts hlocks hl hI hK
  have F : CallFix p m c cX13_kindFor 3 s _ lw_all RX13 := ⟨hx, hb, hml, hown, hts⟩
  have hl : lv_has ls 3 [(0, .ref (L 0)), (1, .int g), (2, .int n)] := hl
  have hS : va_S A s.heap s.heap [] := va_S.rf
  obtain ⟨nn, hn, h8⟩ : ∃ n, x.1 0 1 0 = nI n ∧ n ≤ 8 := ⟨_, hO.n⟩
  have hN : wN (x.1 0) = nn := by unfold wN; rw [hn, nI_clamp (by omega)]
  refine lv_aload_n hx hb dX13_kindFor_0 rfl (lv_at hl 0 rfl) ?_
  refine lv_iload_n hx hb dX13_kindFor_1 rfl (lv_at hl 1 rfl) ?_
  refine c_r (k_V (As := [.int g]) (rest := []) F (k_X13_isGlove x g) (cwV 1 hts (lw_V q1289 q1291 qs55 q107 q1292) rfl rfl rfl (by decide +kernel) ⟨Nat.le_of_ble_eq_true rfl, Nat.le_of_ble_eq_true rfl⟩) hI hK (hw.recv hI hK (mf_main) rfl) rfl hl.1 rfl (Nat.le_of_ble_eq_true rfl) dX13_kindFor_2 ⟨Nat.le_of_ble_eq_true rfl, Nat.le_of_ble_eq_true rfl⟩) ?_
  refine lv_if_eq (tgt := 32) hx hb dX13_kindFor_5 (by decide) (fun c_5 => ?_) (fun c_5 => ?_)
  · skip
    refine lv_aload_n hx hb dX13_kindFor_32 rfl (lv_at hl 0 rfl) ?_
    refine lv_iconst (v := 0) hx hb dX13_kindFor_33 (by decide) ?_
    refine c_m (k_V (As := [.int 0]) (rest := []) F (k_X13_finds x 0 (by decide)) (cwV 1 hts (lw_V q1238 q1240 qs47 q107 q1241) rfl rfl rfl (by decide +kernel) ⟨Nat.le_of_ble_eq_true rfl, Nat.le_of_ble_eq_true rfl⟩) hI hK (hw.recv hI hK (mf_main) rfl) rfl hl.1 rfl (Nat.le_of_ble_eq_true rfl) dX13_kindFor_34 ⟨Nat.le_of_ble_eq_true rfl, Nat.le_of_ble_eq_true rfl⟩) hS (fun H1 locs1 hI hS => ?_)
    obtain ⟨x1, ex1⟩ : ∃ z, z = (fndM x 0) := ⟨_, rfl⟩
    rw [← ex1] at hI
    exact W.iret hx hb hr (fun t ht _ => ⟨rI (by first | (rw [hA]; rfl) | (simp [a_kindFor, aoI, aR, c_5]; done)), ⟨x1, (by first | (rw [hA, aM, ys_self]; assumption) | (refine jm_eq ?_; rw [ex1]; simp [a_kindFor, aoI, aM, c_5]; done)), by rw [ht]; exact hI⟩, hS.F ht⟩) hS.2.2 dX13_kindFor_37
  · skip
    refine lv_iload_n hx hb dX13_kindFor_8 rfl (lv_at hl 2 rfl) ?_
    refine lv_i2l (v := (n : Int32).toInt64) hx hb dX13_kindFor_9 rfl ?_
    refine lv_lconst (v := 0) hx hb dX13_kindFor_10 (by decide) ?_
    refine lv_ldc2 (v := 60) hx hb hown (hts _ q1341) dX13_kindFor_11 ?_
    refine c_r (k_S (As := [.long ((n : Int32).toInt64), .long 0, .long 60]) (rest := []) F (k_X13_in n 0 60 ((n : Int32).toInt64 : Int64) (0 : Int64) (60 : Int64) rfl (by decide) (by decide)) (va_cwS 3 hts (lw_S q1227 q1228 q107 q1229) rfl rfl rfl (by decide +kernel) ⟨Nat.le_of_ble_eq_true rfl, Nat.le_of_ble_eq_true rfl⟩) rfl hl.1 rfl (Nat.le_of_ble_eq_true rfl) dX13_kindFor_14 ⟨Nat.le_of_ble_eq_true rfl, Nat.le_of_ble_eq_true rfl⟩) ?_
    refine lv_if_eq (tgt := 32) hx hb dX13_kindFor_17 (by decide) (fun c_17 => ?_) (fun c_17 => ?_)
    · skip
      refine lv_aload_n hx hb dX13_kindFor_32 rfl (lv_at hl 0 rfl) ?_
      refine lv_iconst (v := 0) hx hb dX13_kindFor_33 (by decide) ?_
      refine c_m (k_V (As := [.int 0]) (rest := []) F (k_X13_finds x 0 (by decide)) (cwV 1 hts (lw_V q1238 q1240 qs47 q107 q1241) rfl rfl rfl (by decide +kernel) ⟨Nat.le_of_ble_eq_true rfl, Nat.le_of_ble_eq_true rfl⟩) hI hK (hw.recv hI hK (mf_main) rfl) rfl hl.1 rfl (Nat.le_of_ble_eq_true rfl) dX13_kindFor_34 ⟨Nat.le_of_ble_eq_true rfl, Nat.le_of_ble_eq_true rfl⟩) hS (fun H1 locs1 hI hS => ?_)
      obtain ⟨x2, ex2⟩ : ∃ z, z = (fndM x 0) := ⟨_, rfl⟩
      rw [← ex2] at hI
      exact W.iret hx hb hr (fun t ht _ => ⟨rI (by first | (rw [hA]; rfl) | (simp [a_kindFor, aoI, aR, c_5, c_17]; done)), ⟨x2, (by first | (rw [hA, aM, ys_self]; assumption) | (refine jm_eq ?_; rw [ex2]; simp [a_kindFor, aoI, aM, c_5, c_17]; done)), by rw [ht]; exact hI⟩, hS.F ht⟩) hS.2.2 dX13_kindFor_37
    · skip
      obtain ⟨k, hk, eg⟩ := isGl_to hn h8 c_5
      have eg2 : g.toNatClampNeg = k := by rw [eg, nI_clamp (by omega)]
      obtain ⟨j, hj, en⟩ := inI_to (b := 60) rfl (by decide) c_17
      have en2 : n.toNatClampNeg = j := by rw [en, nI_clamp (by omega)]
      have hA : a_kindFor (x.1 0) g n = .inr (mbI (x.1 0) k 0 7 j, x.1 0) := by simp only [a_kindFor, aoI, if_neg c_5, if_neg c_17, eg2, en2]; rfl
      subst eg
      subst en
      refine lv_aload_n hx hb dX13_kindFor_20 rfl (lv_at hl 0 rfl) ?_
      refine lv_iload_n hx hb dX13_kindFor_21 rfl (lv_at hl 1 rfl) ?_
      refine lv_iconst (v := 0) hx hb dX13_kindFor_22 (by decide) ?_
      refine lv_bipush (v := 6) hx hb dX13_kindFor_23 (by decide) ?_
      refine lv_iload_n hx hb dX13_kindFor_25 rfl (lv_at hl 2 rfl) ?_
      refine c_jm (k_V (As := [.int (nI k), .int 0, .int 6, .int (nI j)]) (rest := []) F (k_X13_bestOf x (hO) (hd) k 0 6 j (by omega) (by omega) (by omega)) (cwV 4 hts (lw_V q1423 q1425 qs72 q107 q1426) rfl rfl rfl (by decide +kernel) ⟨Nat.le_of_ble_eq_true rfl, Nat.le_of_ble_eq_true rfl⟩) hI hK (hw.recv hI hK (mf_main) rfl) rfl hl.1 rfl (Nat.le_of_ble_eq_true rfl) dX13_kindFor_26 ⟨Nat.le_of_ble_eq_true rfl, Nat.le_of_ble_eq_true rfl⟩) hS (fun x3 H1 locs1 ex3 hI hS => ?_)
      refine lv_goto (tgt := 37) hx hb dX13_kindFor_29 (by decide) ?_
      exact W.iret hx hb hr (fun t ht _ => ⟨rI (by first | (rw [hA]; rfl) | (simp [a_kindFor, aoI, aR, c_5, c_17]; done)), ⟨x3, (by first | (rw [hA, aM, ys_self]; assumption) | (refine jm_eq ?_; rw [ex3]; simp [a_kindFor, aoI, aM, c_5, c_17]; done)), by rw [ht]; exact hI⟩, hS.F ht⟩) hS.2.2 dX13_kindFor_37
theorem k_X13_openFor {l : Launch} {D : va_G} {L : Nat → Nat} {A : Nat → Prop} (x : mst) (hO : wOk (x.1 0)) (hd : isN (x.1 0 1 2) 10000) (g v n : Int32) : Met l yX13_openFor (ws_ yX13_openFor cX13_openFor 5 (some .int)) ({ frames := 8, cells := 0, slots := 0, locals := 181 } : Room) (va_Pc [.ref (L 0), .int g, .int v, .int n] (pI D (cfM D L x) A)) (jMQ D L (aM x (a_openFor (x.1 0) g v n)) A (some (.int (aR (a_openFor (x.1 0) g v n))))) 0 0 A := by
  refine met_I (by decide) rfl (Nat.le_of_ble_eq_true rfl) ?_
  intro p e s m below meth c ls hx hb hr hml hown hts hlocks hl hI hK
  have F : CallFix p m c cX13_openFor 5 s _ lw_all RX13 := ⟨hx, hb, hml, hown, hts⟩
  have hl : lv_has ls 5 [(0, .ref (L 0)), (1, .int g), (2, .int v), (3, .int n)] := hl
  have hS : va_S A s.heap s.heap [] := va_S.rf
  obtain ⟨nn, hn, h8⟩ : ∃ n, x.1 0 1 0 = nI n ∧ n ≤ 8 := ⟨_, hO.n⟩
  have hN : wN (x.1 0) = nn := by unfold wN; rw [hn, nI_clamp (by omega)]
  refine lv_aload_n hx hb dX13_openFor_0 rfl (lv_at hl 0 rfl) ?_
  refine lv_iload_n hx hb dX13_openFor_1 rfl (lv_at hl 1 rfl) ?_
  refine c_r (k_V (As := [.int g]) (rest := []) F (k_X13_isGlove x g) (cwV 1 hts (lw_V q1289 q1291 qs55 q107 q1292) rfl rfl rfl (by decide +kernel) ⟨Nat.le_of_ble_eq_true rfl, Nat.le_of_ble_eq_true rfl⟩) hI hK (hw.recv hI hK (mf_main) rfl) rfl hl.1 rfl (Nat.le_of_ble_eq_true rfl) dX13_openFor_2 ⟨Nat.le_of_ble_eq_true rfl, Nat.le_of_ble_eq_true rfl⟩) ?_
  refine lv_if_eq (tgt := 32) hx hb dX13_openFor_5 (by decide) (fun c_5 => ?_) (fun c_5 => ?_)
  · skip
    refine lv_aload_n hx hb dX13_openFor_32 rfl (lv_at hl 0 rfl) ?_
    refine lv_iconst (v := 0) hx hb dX13_openFor_33 (by decide) ?_
    refine c_m (k_V (As := [.int 0]) (rest := []) F (k_X13_finds x 0 (by decide)) (cwV 1 hts (lw_V q1238 q1240 qs47 q107 q1241) rfl rfl rfl (by decide +kernel) ⟨Nat.le_of_ble_eq_true rfl, Nat.le_of_ble_eq_true rfl⟩) hI hK (hw.recv hI hK (mf_main) rfl) rfl hl.1 rfl (Nat.le_of_ble_eq_true rfl) dX13_openFor_34 ⟨Nat.le_of_ble_eq_true rfl, Nat.le_of_ble_eq_true rfl⟩) hS (fun H1 locs1 hI hS => ?_)
    obtain ⟨x1, ex1⟩ : ∃ z, z = (fndM x 0) := ⟨_, rfl⟩
    rw [← ex1] at hI
    exact W.iret hx hb hr (fun t ht _ => ⟨rI (by first | (simp [a_openFor, aoI, aR, c_5]; done)), ⟨x1, (by refine jm_eq ?_; rw [ex1]; simp [a_openFor, aoI, aM, c_5]), by rw [ht]; exact hI⟩, hS.F ht⟩) hS.2.2 dX13_openFor_37
  · skip
    refine lv_iload_n hx hb dX13_openFor_8 rfl (lv_at hl 2 rfl) ?_
    refine lv_i2l (v := (v : Int32).toInt64) hx hb dX13_openFor_9 rfl ?_
    refine lv_lconst (v := 0) hx hb dX13_openFor_10 (by decide) ?_
    refine lv_ldc2 (v := 16) hx hb hown (hts _ q1406) dX13_openFor_11 ?_
    refine c_r (k_S (As := [.long ((v : Int32).toInt64), .long 0, .long 16]) (rest := []) F (k_X13_in v 0 16 ((v : Int32).toInt64 : Int64) (0 : Int64) (16 : Int64) rfl (by decide) (by decide)) (va_cwS 3 hts (lw_S q1227 q1228 q107 q1229) rfl rfl rfl (by decide +kernel) ⟨Nat.le_of_ble_eq_true rfl, Nat.le_of_ble_eq_true rfl⟩) rfl hl.1 rfl (Nat.le_of_ble_eq_true rfl) dX13_openFor_14 ⟨Nat.le_of_ble_eq_true rfl, Nat.le_of_ble_eq_true rfl⟩) ?_
    refine lv_if_eq (tgt := 32) hx hb dX13_openFor_17 (by decide) (fun c_17 => ?_) (fun c_17 => ?_)
    · skip
      refine lv_aload_n hx hb dX13_openFor_32 rfl (lv_at hl 0 rfl) ?_
      refine lv_iconst (v := 0) hx hb dX13_openFor_33 (by decide) ?_
      refine c_m (k_V (As := [.int 0]) (rest := []) F (k_X13_finds x 0 (by decide)) (cwV 1 hts (lw_V q1238 q1240 qs47 q107 q1241) rfl rfl rfl (by decide +kernel) ⟨Nat.le_of_ble_eq_true rfl, Nat.le_of_ble_eq_true rfl⟩) hI hK (hw.recv hI hK (mf_main) rfl) rfl hl.1 rfl (Nat.le_of_ble_eq_true rfl) dX13_openFor_34 ⟨Nat.le_of_ble_eq_true rfl, Nat.le_of_ble_eq_true rfl⟩) hS (fun H1 locs1 hI hS => ?_)
      obtain ⟨x2, ex2⟩ : ∃ z, z = (fndM x 0) := ⟨_, rfl⟩
      rw [← ex2] at hI
      exact W.iret hx hb hr (fun t ht _ => ⟨rI (by first | (simp [a_openFor, aoI, aR, c_5, c_17]; done)), ⟨x2, (by refine jm_eq ?_; rw [ex2]; simp [a_openFor, aoI, aM, c_5, c_17]), by rw [ht]; exact hI⟩, hS.F ht⟩) hS.2.2 dX13_openFor_37
    · skip
      refine lv_iload_n hx hb dX13_openFor_20 rfl (lv_at hl 3 rfl) ?_
      refine lv_i2l (v := (n : Int32).toInt64) hx hb dX13_openFor_21 rfl ?_
      refine lv_lconst (v := 0) hx hb dX13_openFor_22 (by decide) ?_
      refine lv_ldc2 (v := 60) hx hb hown (hts _ q1341) dX13_openFor_23 ?_
      refine c_r (k_S (As := [.long ((n : Int32).toInt64), .long 0, .long 60]) (rest := []) F (k_X13_in n 0 60 ((n : Int32).toInt64 : Int64) (0 : Int64) (60 : Int64) rfl (by decide) (by decide)) (va_cwS 3 hts (lw_S q1227 q1228 q107 q1229) rfl rfl rfl (by decide +kernel) ⟨Nat.le_of_ble_eq_true rfl, Nat.le_of_ble_eq_true rfl⟩) rfl hl.1 rfl (Nat.le_of_ble_eq_true rfl) dX13_openFor_26 ⟨Nat.le_of_ble_eq_true rfl, Nat.le_of_ble_eq_true rfl⟩) ?_
      refine lv_if_ne (tgt := 38) hx hb dX13_openFor_29 (by decide) (fun c_29 => ?_) (fun c_29 => ?_)
      · skip
        obtain ⟨k, hk, eg⟩ := isGl_to hn h8 c_5
        have eg2 : g.toNatClampNeg = k := by rw [eg, nI_clamp (by omega)]
        obtain ⟨j, hj, en⟩ := inI_to (b := 60) rfl (by decide) c_29
        have en2 : n.toNatClampNeg = j := by rw [en, nI_clamp (by omega)]
        have hA : a_openFor (x.1 0) g v n = a_orN (x.1 0) (loI (x.1 0) k v j) := by simp only [a_openFor, aoI, if_neg c_5, if_neg c_29, if_neg c_17, eg2, en2]; rfl
        subst eg
        subst en
        refine lv_aload_n hx hb dX13_openFor_38 rfl (lv_at hl 0 rfl) ?_
        refine r_get (C := RX13) (T := TX13) (N := 18) hx hb hts in_X13 hown hK hI (mf_main) rfl 0 (by decide) (hts _ q1164) (fun _ h => h) rfl dX13_openFor_39 ?_
        refine lv_aload_n hx hb dX13_openFor_42 rfl (lv_at hl 0 rfl) ?_
        refine r_get (C := RX13) (T := TX13) (N := 18) hx hb hts in_X13 hown hK hI (mf_main) rfl 2 (by decide) (hts _ q1166) (fun _ h => h) rfl dX13_openFor_43 ?_
        refine c_m (k_SI (As := [.ref (L 1), .ref (L 3)]) (rest := []) F (k_X13_copies (cf' := cfM D L (ys x 2 (x.1 0))) mf_d mf_aside (by decide) (ms_wn (w := 2) (by decide) (by decide) rfl)) (va_cwS 2 hts (lw_S q1391 q1392 q107 q1393) rfl rfl rfl (by decide +kernel) ⟨Nat.le_of_ble_eq_true rfl, Nat.le_of_ble_eq_true rfl⟩) hI hK rfl hl.1 rfl (Nat.le_of_ble_eq_true rfl) dX13_openFor_46 ⟨Nat.le_of_ble_eq_true rfl, Nat.le_of_ble_eq_true rfl⟩) hS (fun H1 locs1 hI hS => ?_)
        obtain ⟨x3, ex3⟩ : ∃ z, z = ys x 2 (x.1 0) := ⟨_, rfl⟩
        rw [← ex3] at hI
        refine lv_iconst (v := 0) hx hb dX13_openFor_49 (by decide) ?_
        refine lv_istore (lv' := [(4, .int 0), (0, .ref (L 0)), (1, .int (nI k)), (2, .int v), (3, .int (nI j))]) hx hb dX13_openFor_50 hl (by decide) rfl (fun ls hl => ?_)
        have lp52 : ∀ (fuel : Nat) (i : Nat), (i ≤ 10) → (∀ q, q < i → bcI (tbI (u2 (x.1 0) (2 + 2) k (nI q)) k 5 j) < v) → 10 - i < fuel → ∀ (v4 : Int32), v4 = nI i → ∀ (xc52 : mst), xc52 = ys (ys x 2 (x.1 0)) 0 (x.1 0) → ∀ (H : Heap) (locs : List Loc), hw D (cfM D L xc52) A H → va_S A s.heap H locs → ∀ (ls : Array Slot), lv_has ls 5 [(0, .ref (L 0)), (1, .int (nI k)), (2, .int v), (3, .int (nI j)), (4, .int v4)] → W p l e ({ frames := 8, cells := 0, slots := 0, locals := 181 } : Room) s m ([.ref (L 0), .int (nI k), .int v, .int (nI j)] : List Value).toArray below meth c H locs 0 0 (MQ below (jMQ D L (aM x (a_openFor (x.1 0) (nI k) v (nI j))) A (some (.int (aR (a_openFor (x.1 0) (nI k) v (nI j)))))) ([.ref (L 0), .int (nI k), .int v, .int (nI j)] : List Value).toArray s 0 0 A) (F0 m 52 ls []) := by
          intro fuel
          induction fuel with
          | zero => intro i hi hp hf; exact absurd hf (Nat.not_lt_zero _)
          | succ fuel ih52 =>
            intro i hi hp hf52 v4 e4  xc52 exc52 H locs hI hS ls hl
            subst e4
            refine lv_iload hx hb dX13_openFor_52 (lv_at hl 4 rfl) ?_
            refine lv_bipush (v := 10) hx hb dX13_openFor_54 (by decide) ?_
            refine lv_icmp_ge (tgt := 92) hx hb dX13_openFor_56 (by decide) (fun c_56 => ?_) (fun c_56 => ?_)
            · skip
              have c_56 : 10 ≤ i := (nle (a := 10) (b := i) (rfl) (rfl) (by omega) (by omega)).mp c_56
              have hL : loI (x.1 0) k v j = -1 := lo_miss (fun q hq => hp q (by omega))
              refine lv_aload_n hx hb dX13_openFor_92 rfl (lv_at hl 0 rfl) ?_
              refine lv_iconst (v := 3) hx hb dX13_openFor_93 (by decide) ?_
              refine c_m (k_V (As := [.int 3]) (rest := []) F (k_X13_finds xc52 3 (by decide)) (cwV 1 hts (lw_V q1238 q1240 qs47 q107 q1241) rfl rfl rfl (by decide +kernel) ⟨Nat.le_of_ble_eq_true rfl, Nat.le_of_ble_eq_true rfl⟩) hI hK (hw.recv hI hK (mf_main) rfl) rfl hl.1 rfl (Nat.le_of_ble_eq_true rfl) dX13_openFor_94 ⟨Nat.le_of_ble_eq_true rfl, Nat.le_of_ble_eq_true rfl⟩) hS (fun H1 locs1 hI hS => ?_)
              obtain ⟨x4, ex4⟩ : ∃ z, z = (fndM xc52 3) := ⟨_, rfl⟩
              rw [← ex4] at hI
              exact W.iret hx hb hr (fun t ht _ => ⟨rI (by rw [hA, aR_orN, hL]; rfl), ⟨x4, (by rw [hA, aM_orN, hL, orM, if_pos rfl, ex4]; refine jm_fnd ?_ 3; rw [exc52]; exact jm_ag _ _), by rw [ht]; exact hI⟩, hS.F ht⟩) hS.2.2 dX13_openFor_97
            · skip
              have c_56 : ¬ 10 ≤ i := fun z => c_56 ((nle (a := 10) (b := i) (rfl) (rfl) (by omega) (by omega)).mpr z)
              refine lv_aload_n hx hb dX13_openFor_59 rfl (lv_at hl 0 rfl) ?_
              refine lv_iload_n hx hb dX13_openFor_60 rfl (lv_at hl 1 rfl) ?_
              refine lv_iconst (v := 2) hx hb dX13_openFor_61 (by decide) ?_
              refine lv_iload hx hb dX13_openFor_62 (lv_at hl 4 rfl) ?_
              refine c_m (k_V (As := [.int (nI k), .int 2, .int (nI i)]) (rest := []) F (k_X13_sets xc52 (nI k) 2 k 2 (nI i) (by omega) (by omega) rfl rfl) (cwV 3 hts (lw_V q1281 q1283 qs54 q107 q1284) rfl rfl rfl (by decide +kernel) ⟨Nat.le_of_ble_eq_true rfl, Nat.le_of_ble_eq_true rfl⟩) hI hK (hw.recv hI hK (mf_main) rfl) rfl hl.1 rfl (Nat.le_of_ble_eq_true rfl) dX13_openFor_64 ⟨Nat.le_of_ble_eq_true rfl, Nat.le_of_ble_eq_true rfl⟩) hS (fun H1 locs1 hI hS => ?_)
              obtain ⟨x5, ex5⟩ : ∃ z, z = ys xc52 0 (u2 (xc52.1 0) (2 + 2) k (nI i)) := ⟨_, rfl⟩
              rw [← ex5] at hI
              have hx1 : x5.1 0 = u2 (x.1 0) (2 + 2) k (nI i) := by rw [ex5, ys_at, exc52, ys_at]
              have hO_x5 : wOk (x5.1 0) := by rw [hx1]; exact wOk_m2 hO (by omega)
              have hd_x5 : isN (x5.1 0 1 2) 10000 := by rw [hx1, u2_ne (by omega)]; exact hd
              have hx2 : x5.1 2 = x.1 0 := by rw [ex5, ys_ne (by decide), exc52, ys_c0]
              have hO_hx := hO_x5
              have hd_hx := hd_x5
              refine lv_aload_n hx hb dX13_openFor_67 rfl (lv_at hl 0 rfl) ?_
              refine lv_iload_n hx hb dX13_openFor_68 rfl (lv_at hl 3 rfl) ?_
              refine lv_bipush (v := 49) hx hb dX13_openFor_69 (by decide) ?_
              refine lv_iload_n hx hb dX13_openFor_71 rfl (lv_at hl 1 rfl) ?_
              refine lv_iadd hx hb dX13_openFor_72 ?_
              refine c_m (k_V (As := [.int (nI j), .int ((49 : Int32) + (nI k))]) (rest := []) F (k_X13_behind x5 (hO_x5) (hd_x5) k 5 j ((49 : Int32) + (nI k)) (by omega) (by omega) (by omega) (na_add (rfl) (rfl))) (cwV 2 hts (lw_V q1394 q1396 qs70 q107 q1397) rfl rfl rfl (by decide +kernel) ⟨Nat.le_of_ble_eq_true rfl, Nat.le_of_ble_eq_true rfl⟩) hI hK (hw.recv hI hK (mf_main) rfl) rfl hl.1 rfl (Nat.le_of_ble_eq_true rfl) dX13_openFor_73 ⟨Nat.le_of_ble_eq_true rfl, Nat.le_of_ble_eq_true rfl⟩) hS (fun H1 locs1 hI hS => ?_)
              obtain ⟨x6, ex6⟩ : ∃ z, z = ys x5 0 (u2 (x5.1 2) 1 1 (x5.1 0 1 1)) := ⟨_, rfl⟩
              rw [← ex6] at hI
              refine c_r (k_S (As := [.int (tbI (x5.1 0) k 5 j)]) (rest := []) F (k_X13_ones (tbI (x5.1 0) k 5 j) ((wOk_psn hO_hx hd_hx j (by omega)).2.1 k (by omega) |>.2.2.2.2.2.1)) (va_cwS 1 hts (lw_S q1363 q1364 q107 q1365) rfl rfl rfl (by decide +kernel) ⟨Nat.le_of_ble_eq_true rfl, Nat.le_of_ble_eq_true rfl⟩) rfl hl.1 rfl (Nat.le_of_ble_eq_true rfl) dX13_openFor_76 ⟨Nat.le_of_ble_eq_true rfl, Nat.le_of_ble_eq_true rfl⟩) ?_
              refine lv_iload_n hx hb dX13_openFor_79 rfl (lv_at hl 2 rfl) ?_
              refine lv_icmp_lt (tgt := 86) hx hb dX13_openFor_80 (by decide) (fun c_80 => ?_) (fun c_80 => ?_)
              · skip
                refine lv_iinc (v := (nI (i + 1))) (lv' := [(4, .int (nI (i + 1))), (0, .ref (L 0)), (1, .int (nI k)), (2, .int v), (3, .int (nI j))]) hx hb dX13_openFor_86 hl (k := 4) rfl (nI_1 _) (by decide) rfl (fun ls hl => ?_)
                refine lv_goto (tgt := 52) hx hb dX13_openFor_89 (by decide) ?_
                exact ih52 (i + 1) (by omega) (fun q hq => by rcases Nat.lt_succ_iff_lt_or_eq.mp hq with h | h; exact hp q h; subst h; rw [← hx1]; exact c_80) (by omega) (nI (i + 1)) (rfl) x6 (by rw [ex6, ex5, exc52]; simp only [ys_at, ys_ys, ys_c0]; rw [u2_ne (show 1 ≠ 2 + 2 by omega), u2_self]) _ _ hI hS ls (lv_sub hl [1, 2, 3, 4, 0] rfl)
              · skip
                have hL : loI (x.1 0) k v j = nI i := lo_hit (by omega) hp (by rw [← hx1]; exact c_80)
                refine lv_iload hx hb dX13_openFor_83 (lv_at hl 4 rfl) ?_
                exact W.iret hx hb hr (fun t ht _ => ⟨rI (by rw [hA, aR_orN, hL, orI, if_neg (nI_m1 (by omega))]), ⟨x6, (by rw [hA, aM_orN, hL, orM, if_neg (nI_m1 (by omega)), ex6, ex5, exc52]; simp only [ys_at, ys_ys, ys_c0]; rw [u2_ne (show 1 ≠ 2 + 2 by omega)]; exact jm_t _ _ _), by rw [ht]; exact hI⟩, hS.F ht⟩) hS.2.2 dX13_openFor_85
        exact lp52 (_ + 1) (0) (Nat.zero_le _) (fun q h => by omega) (Nat.lt_succ_self _) 0 (rfl) x3 (by rw [ex3]; exact (ys_20 x).symm) _ _ hI hS ls (lv_sub hl [1, 2, 3, 4, 0] rfl)
      · skip
        refine lv_aload_n hx hb dX13_openFor_32 rfl (lv_at hl 0 rfl) ?_
        refine lv_iconst (v := 0) hx hb dX13_openFor_33 (by decide) ?_
        refine c_m (k_V (As := [.int 0]) (rest := []) F (k_X13_finds x 0 (by decide)) (cwV 1 hts (lw_V q1238 q1240 qs47 q107 q1241) rfl rfl rfl (by decide +kernel) ⟨Nat.le_of_ble_eq_true rfl, Nat.le_of_ble_eq_true rfl⟩) hI hK (hw.recv hI hK (mf_main) rfl) rfl hl.1 rfl (Nat.le_of_ble_eq_true rfl) dX13_openFor_34 ⟨Nat.le_of_ble_eq_true rfl, Nat.le_of_ble_eq_true rfl⟩) hS (fun H1 locs1 hI hS => ?_)
        obtain ⟨x7, ex7⟩ : ∃ z, z = (fndM x 0) := ⟨_, rfl⟩
        rw [← ex7] at hI
        exact W.iret hx hb hr (fun t ht _ => ⟨rI (by first | (simp [a_openFor, aoI, aR, c_5, c_17, c_29]; done)), ⟨x7, (by refine jm_eq ?_; rw [ex7]; simp [a_openFor, aoI, aM, c_5, c_17, c_29]), by rw [ht]; exact hI⟩, hS.F ht⟩) hS.2.2 dX13_openFor_37
theorem k_X13_lower {l : Launch} {D : va_G} {L : Nat → Nat} {A : Nat → Prop} (x : mst) (hO : wOk (x.1 0)) (i : Int32) : Met l yX13_lower (ws_ yX13_lower cX13_lower 4 (some .int)) ({ frames := 5, cells := 0, slots := 0, locals := 114 } : Room) (va_Pc [.ref (L 0), .int i] (pI D (cfM D L x) A)) (jMQ D L (aM x (a_lower (x.1 0) i)) A (some (.int (aR (a_lower (x.1 0) i))))) 0 0 A := by
  refine met_I (by decide) rfl (Nat.le_of_ble_eq_true rfl) ?_
  intro p e s m below meth c ls hx hb hr hml hown hts hlocks hl hI hK
  have F : CallFix p m c cX13_lower 4 s _ lw_all RX13 := ⟨hx, hb, hml, hown, hts⟩
  have hl : lv_has ls 4 [(0, .ref (L 0)), (1, .int i)] := hl
  have hS : va_S A s.heap s.heap [] := va_S.rf
  obtain ⟨nn, hn, h8⟩ : ∃ n, x.1 0 1 0 = nI n ∧ n ≤ 8 := ⟨_, hO.n⟩
  have hN : wN (x.1 0) = nn := by unfold wN; rw [hn, nI_clamp (by omega)]
  refine lv_iload_n hx hb dX13_lower_0 rfl (lv_at hl 1 rfl) ?_
  refine c_r (k_S (As := [.int i]) (rest := []) F (k_X13_isPlace i) (va_cwS 1 hts (lw_S q1223 q1224 q107 q1225) rfl rfl rfl (by decide +kernel) ⟨Nat.le_of_ble_eq_true rfl, Nat.le_of_ble_eq_true rfl⟩) rfl hl.1 rfl (Nat.le_of_ble_eq_true rfl) dX13_lower_1 ⟨Nat.le_of_ble_eq_true rfl, Nat.le_of_ble_eq_true rfl⟩) ?_
  refine lv_if_ne (tgt := 13) hx hb dX13_lower_4 (by decide) (fun c_4 => ?_) (fun c_4 => ?_)
  · skip
    obtain ⟨j, hj, ei⟩ := inI_to (b := 5) rfl (by decide) c_4
    have ei2 : i.toNatClampNeg = j := by rw [ei, nI_clamp (by omega)]
    have hsk := hO.2.2.1 j (by omega)
    have hA : a_lower (x.1 0) i = a_orN (x.1 0) (guI (x.1 0) (x.1 0 0 j)) := by simp only [a_lower, if_neg c_4, ei2]
    subst ei
    refine lv_aload_n hx hb dX13_lower_13 rfl (lv_at hl 0 rfl) ?_
    refine r_get (C := RX13) (T := TX13) (N := 18) hx hb hts in_X13 hown hK hI (mf_main) rfl 0 (by decide) (hts _ q1164) (fun _ h => h) rfl dX13_lower_14 ?_
    refine lv_iconst (v := 3) hx hb dX13_lower_17 (by decide) ?_
    refine lv_iload_n hx hb dX13_lower_18 rfl (lv_at hl 1 rfl) ?_
    refine lv_iadd hx hb dX13_lower_19 ?_
    refine n_ialdv (k := (3 + j)) (v := (x.1 0 0 j)) hx hb hK hI (mf_d) (na_add (rfl) (rfl)) (by omega) (by decide) (md_list _ (by omega)) dX13_lower_20 ?_
    refine lv_aload_n hx hb dX13_lower_21 rfl (lv_at hl 0 rfl) ?_
    refine r_get (C := RX13) (T := TX13) (N := 18) hx hb hts in_X13 hown hK hI (mf_main) rfl 0 (by decide) (hts _ q1164) (fun _ h => h) rfl dX13_lower_22 ?_
    refine lv_iconst (v := 3) hx hb dX13_lower_25 (by decide) ?_
    refine lv_iload_n hx hb dX13_lower_26 rfl (lv_at hl 1 rfl) ?_
    refine lv_iadd hx hb dX13_lower_27 ?_
    refine n_ialdv (k := (3 + j)) (v := (x.1 0 0 j)) hx hb hK hI (mf_d) (na_add (rfl) (rfl)) (by omega) (by decide) (md_list _ (by omega)) dX13_lower_28 ?_
    refine lv_bipush (v := 10) hx hb dX13_lower_29 (by decide) ?_
    refine lv_irem hx hb dX13_lower_31 (by decide) ?_
    refine lv_isub hx hb dX13_lower_32 ?_
    refine lv_istore_n (lv' := [(2, .int ((x.1 0 0 j) - ((x.1 0 0 j) - (x.1 0 0 j) / (10 : Int32) * (10 : Int32)))), (0, .ref (L 0)), (1, .int (nI j))]) hx hb dX13_lower_33 rfl hl (by decide) rfl (fun ls hl => ?_)
    refine lv_bipush (v := 9) hx hb dX13_lower_34 (by decide) ?_
    refine lv_istore_n (lv' := [(3, .int 9), (2, .int ((x.1 0 0 j) - ((x.1 0 0 j) - (x.1 0 0 j) / (10 : Int32) * (10 : Int32)))), (0, .ref (L 0)), (1, .int (nI j))]) hx hb dX13_lower_36 rfl hl (by decide) rfl (fun ls hl => ?_)
    have lp37 : ∀ (fuel : Nat) (q : Nat), (q ≤ 10) → (guI (x.1 0) (x.1 0 0 j) = guR (x.1 0) (x.1 0 0 j) q) → q < fuel → ∀ (v3 : Int32), v3 = (nI q - 1) → ∀ (xc37 : mst), xc37 = x → ∀ (H : Heap) (locs : List Loc), hw D (cfM D L xc37) A H → va_S A s.heap H locs → ∀ (ls : Array Slot), lv_has ls 4 [(0, .ref (L 0)), (1, .int (nI j)), (2, .int ((x.1 0 0 j) - ((x.1 0 0 j) - (x.1 0 0 j) / (10 : Int32) * (10 : Int32)))), (3, .int v3)] → W p l e ({ frames := 5, cells := 0, slots := 0, locals := 114 } : Room) s m ([.ref (L 0), .int (nI j)] : List Value).toArray below meth c H locs 0 0 (MQ below (jMQ D L (aM x (a_lower (x.1 0) (nI j))) A (some (.int (aR (a_lower (x.1 0) (nI j)))))) ([.ref (L 0), .int (nI j)] : List Value).toArray s 0 0 A) (F0 m 37 ls []) := by
      intro fuel
      induction fuel with
      | zero => intro q hq10 hG hf; exact absurd hf (Nat.not_lt_zero _)
      | succ fuel ih37 =>
        intro q hq10 hG hf37 v3 e3  xc37 exc37 H locs hI hS ls hl
        subst e3
        have hO_xc37 : wOk (xc37.1 0) := by rw [exc37]; exact hO
        refine lv_iload_n hx hb dX13_lower_37 rfl (lv_at hl 3 rfl) ?_
        refine lv_if_lt (tgt := 59) hx hb dX13_lower_38 (by decide) (fun c_38 => ?_) (fun c_38 => ?_)
        · skip
          have hj0 : q = 0 := (pred_lt (by omega)).mp c_38
          have hL : guI (x.1 0) (x.1 0 0 j) = -1 := by rw [hG, hj0]; rfl
          refine lv_aload_n hx hb dX13_lower_59 rfl (lv_at hl 0 rfl) ?_
          refine lv_iconst (v := 3) hx hb dX13_lower_60 (by decide) ?_
          refine c_m (k_V (As := [.int 3]) (rest := []) F (k_X13_finds xc37 3 (by decide)) (cwV 1 hts (lw_V q1238 q1240 qs47 q107 q1241) rfl rfl rfl (by decide +kernel) ⟨Nat.le_of_ble_eq_true rfl, Nat.le_of_ble_eq_true rfl⟩) hI hK (hw.recv hI hK (mf_main) rfl) rfl hl.1 rfl (Nat.le_of_ble_eq_true rfl) dX13_lower_61 ⟨Nat.le_of_ble_eq_true rfl, Nat.le_of_ble_eq_true rfl⟩) hS (fun H1 locs1 hI hS => ?_)
          obtain ⟨x1, ex1⟩ : ∃ z, z = (fndM xc37 3) := ⟨_, rfl⟩
          rw [← ex1] at hI
          exact W.iret hx hb hr (fun t ht _ => ⟨rI (by rw [hA, aR_orN, hL]; rfl), ⟨x1, (by rw [hA, aM_orN, hL, orM, if_pos rfl, ex1]; refine jm_fnd ?_ 3; rw [exc37]; exact jm_rfl), by rw [ht]; exact hI⟩, hS.F ht⟩) hS.2.2 dX13_lower_64
        · skip
          have hj0 : 0 < q := by have := mt (pred_lt (j := q) (by omega)).mpr c_38; omega
          have hq : nI q - 1 = nI (q - 1) := pred_s hj0
          refine lv_aload_n hx hb dX13_lower_41 rfl (lv_at hl 0 rfl) ?_
          refine lv_iload_n hx hb dX13_lower_42 rfl (lv_at hl 2 rfl) ?_
          refine lv_iload_n hx hb dX13_lower_43 rfl (lv_at hl 3 rfl) ?_
          refine lv_iadd hx hb dX13_lower_44 ?_
          refine c_r (k_V (As := [.int (((x.1 0 0 j) - ((x.1 0 0 j) - (x.1 0 0 j) / (10 : Int32) * (10 : Int32))) + (nI q - 1))]) (rest := []) F (k_X13_hearers xc37 (hO_xc37) (((x.1 0 0 j) - ((x.1 0 0 j) - (x.1 0 0 j) / (10 : Int32) * (10 : Int32))) + (nI q - 1)) (by rw [hq]; exact sOk_l hsk (by omega))) (cwV 1 hts (lw_V q1355 q1357 qs64 q107 q1358) rfl rfl rfl (by decide +kernel) ⟨Nat.le_of_ble_eq_true rfl, Nat.le_of_ble_eq_true rfl⟩) hI hK (hw.recv hI hK (mf_main) rfl) rfl hl.1 rfl (Nat.le_of_ble_eq_true rfl) dX13_lower_45 ⟨Nat.le_of_ble_eq_true rfl, Nat.le_of_ble_eq_true rfl⟩) ?_
          refine lv_if_ne (tgt := 53) hx hb dX13_lower_48 (by decide) (fun c_48 => ?_) (fun c_48 => ?_)
          · skip
            refine lv_iinc (v := ((nI q - 1) + (-1))) (lv' := [(3, .int ((nI q - 1) + (-1))), (0, .ref (L 0)), (1, .int (nI j)), (2, .int ((x.1 0 0 j) - ((x.1 0 0 j) - (x.1 0 0 j) / (10 : Int32) * (10 : Int32))))]) hx hb dX13_lower_53 hl (k := 3) rfl (rfl) (by decide) rfl (fun ls hl => ?_)
            refine lv_goto (tgt := 37) hx hb dX13_lower_56 (by decide) ?_
            exact ih37 (q - 1) (by omega) (by rw [hG, guR_s (by omega)]; rw [exc37, hq] at c_48; unfold ldI; rw [if_neg c_48]) (by omega) ((nI q - 1) + (-1)) (by rw [hq, Int32.sub_eq_add_neg]) xc37 (exc37) _ _ hI hS ls (lv_sub hl [1, 2, 3, 0] rfl)
          · skip
            have hL : guI (x.1 0) (x.1 0 0 j) = nI (q - 1) := by rw [hG, guR_s (by omega)]; rw [exc37, hq] at c_48; unfold ldI; rw [if_pos c_48]
            refine lv_iload_n hx hb dX13_lower_51 rfl (lv_at hl 3 rfl) ?_
            exact W.iret hx hb hr (fun t ht _ => ⟨rI (by rw [hA, aR_orN, hL, orI, if_neg (nI_m1 (by omega)), hq]), ⟨xc37, (by rw [hA, aM_orN, hL, orM, if_neg (nI_m1 (by omega)), exc37]; exact jm_rfl), by rw [ht]; exact hI⟩, hS.F ht⟩) hS.2.2 dX13_lower_52
    exact lp37 (_ + 1) (10) (by decide) (rfl) (Nat.lt_succ_self _) 9 (rfl) x (rfl) _ _ hI hS ls (lv_sub hl [2, 3, 1, 0] rfl)
  · skip
    refine lv_aload_n hx hb dX13_lower_7 rfl (lv_at hl 0 rfl) ?_
    refine lv_iconst (v := 0) hx hb dX13_lower_8 (by decide) ?_
    refine c_m (k_V (As := [.int 0]) (rest := []) F (k_X13_finds x 0 (by decide)) (cwV 1 hts (lw_V q1238 q1240 qs47 q107 q1241) rfl rfl rfl (by decide +kernel) ⟨Nat.le_of_ble_eq_true rfl, Nat.le_of_ble_eq_true rfl⟩) hI hK (hw.recv hI hK (mf_main) rfl) rfl hl.1 rfl (Nat.le_of_ble_eq_true rfl) dX13_lower_9 ⟨Nat.le_of_ble_eq_true rfl, Nat.le_of_ble_eq_true rfl⟩) hS (fun H1 locs1 hI hS => ?_)
    obtain ⟨x2, ex2⟩ : ∃ z, z = (fndM x 0) := ⟨_, rfl⟩
    rw [← ex2] at hI
    exact W.iret hx hb hr (fun t ht _ => ⟨rI (by first | (simp [a_lower, aR, c_4]; done)), ⟨x2, (by refine jm_eq ?_; rw [ex2]; simp [a_lower, aM, c_4]), by rw [ht]; exact hI⟩, hS.F ht⟩) hS.2.2 dX13_lower_12
