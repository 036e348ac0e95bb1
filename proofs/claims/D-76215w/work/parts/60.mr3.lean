/-! the model's reader: the whole text -/
theorem okM_en {n : Nat} {s : ms} (hs : msOk n s) : okM n s (enM s) := by
  obtain ⟨w, a, b, k, v, f⟩ := s
  by_cases c : f = none ∧ ¬ k = 0
  · rw [en_y c.1 c.2]; exact (okM_wr hs).1
  · rw [en_n c]; exact okM.rfl hs
theorem okM_lp {tp : Nat → Int32} {n : Nat} (ht : tpOk tp) (hn : n ≤ 120) : ∀ (g c : Nat) (s : ms), msOk n s → okM n s (lpM tp n g c s).2 := by
  intro g
  induction g with
  | zero => intro c s hs; exact okM.rfl hs
  | succ g ih =>
    intro c s hs
    obtain ⟨w, a, b, k, v, f⟩ := s
    by_cases h : f = none ∧ k = 3
    · rw [lp_y h.1 h.2]
      have g1 := (okM_next ht hn hs.w).1
      have g2 := (okM_it ht hn g1.1).1
      exact (g1.trans g2).trans (ih _ _ g2.1)
    · rw [lp_x h (fun _ => Nat.succ_pos _)]; exact okM_en hs
theorem okM_is {tp : Nat → Int32} {n a b k v : Nat} {w : wd} {f : Option Nat} (ht : tpOk tp) (hn : n ≤ 120) (hs : wOk w) : msOk n (isM tp n (w, a, b, k, v, f)).2 ∧ (isM tp n (w, a, b, k, v, f)).2.1 1 1 = w 1 1 := by
  have hz : msW n (w, 0, b, k, v, none) := ⟨hs, Nat.zero_le _, fun b h => by cases h⟩
  have g1 := (okM_next ht hn hz).1
  have g2 := (okM_it ht hn g1.1).1
  have g3 := okM_lp ht hn 200 1 _ g2.1
  have g4 := (g1.trans g2).trans g3
  exact ⟨g4.1, g4.2.1⟩
def tyC (y : mst) (q : Nat × ms) : mst := if q.2.2.2.2.2.2 = none then ys (yr y 0 1 0) 0 q.2.1 else yr y 0 1 0
def tyR (q : Nat × ms) : Int32 := if q.2.2.2.2.2.2 = none then nI q.1 else -1 - fI q.2.2.2.2.2.2
theorem mx_self {y : mst} {w : wd} {a b k v : Nat} {f : Option Nat} (h0 : y.1 0 = w) (h1 : y.2.1 0 2 = nI a) (h2 : y.2.1 0 4 = nI b) (h3 : y.2.1 0 3 = nI k) (h4 : y.2.2 = nL v) (h5 : y.2.1 0 5 = fI f) : mdX y (w, a, b, k, v, f) = y := by
  subst h0
  unfold mdX
  refine Prod.ext (by show (ys y 0 (y.1 0)).1 = y.1; rw [ys_self]) (Prod.ext ?_ h4.symm)
  funext r c
  show u2 (u2 (u2 (u2 y.2.1 0 2 (nI a)) 0 4 (nI b)) 0 3 (nI k)) 0 5 (fI f) r c = y.2.1 r c
  rw [← h1, ← h2, ← h3, ← h5]
  simp only [u2_at]
  split
  · rename_i h; rw [h.1, h.2]
  · split
    · rename_i h; rw [h.1, h.2]
    · split
      · rename_i h; rw [h.1, h.2]
      · split
        · rename_i h; rw [h.1, h.2]
        · rfl
theorem ty_r {y : mst} {w : wd} {a b k v r : Nat} {f : Option Nat} (h : r ≠ 0) : (yr (mdX (ys y 1 (y.1 0)) (w, a, b, k, v, f)) 0 1 0).2.1 r = (ys (yr y 0 1 0) 0 w).2.1 r := by
  show u2 (mdX (ys y 1 (y.1 0)) (w, a, b, k, v, f)).2.1 0 1 0 r = u2 y.2.1 0 1 0 r
  rw [u2_ne h, u2_ne h, mx_r _ _ _ _ _ _ _ h]; rfl
theorem ty_j1 {y : mst} {w : wd} {a b k v : Nat} {f : Option Nat} : jm (ys (yr y 0 1 0) 0 w) (yr (mdX (ys y 1 (y.1 0)) (w, a, b, k, v, f)) 0 1 0) := by
  refine ⟨?_, ?_, ?_, ?_, ?_, ?_, ?_, ?_, ?_⟩
  · show (mdX (ys y 1 (y.1 0)) (w, a, b, k, v, f)).1 0 = _; rw [mx_w, ys_at]
  · show (mdX (ys y 1 (y.1 0)) (w, a, b, k, v, f)).1 3 = _; rw [mx_wn _ _ _ _ _ _ _ (by decide), ys_ne (by decide), ys_ne (by decide)]; rfl
  · show u2 (mdX (ys y 1 (y.1 0)) (w, a, b, k, v, f)).2.1 0 1 0 0 0 = u2 y.2.1 0 1 0 0 0; rw [u2_at, u2_at, mx_0]; rfl
  · show u2 (mdX (ys y 1 (y.1 0)) (w, a, b, k, v, f)).2.1 0 1 0 0 1 = u2 y.2.1 0 1 0 0 1; rw [u2_at, u2_at]; rfl
  all_goals exact ty_r (by decide)
theorem ty_j2 {y : mst} {w : wd} {a b k v : Nat} {f : Option Nat} (hg : w 1 1 = y.1 0 1 1) {x : mst} (ex : x = yr (mdX (ys y 1 (y.1 0)) (w, a, b, k, v, f)) 0 1 0) : jm (yr y 0 1 0) (ys x 0 (u2 (x.1 1) 1 1 (x.1 0 1 1))) := by
  subst ex
  have j := ty_j1 (y := y) (w := w) (a := a) (b := b) (k := k) (v := v) (f := f)
  have e : u2 ((yr (mdX (ys y 1 (y.1 0)) (w, a, b, k, v, f)) 0 1 0).1 1) 1 1 ((yr (mdX (ys y 1 (y.1 0)) (w, a, b, k, v, f)) 0 1 0).1 0 1 1) = y.1 0 := by
    show u2 ((mdX (ys y 1 (y.1 0)) (w, a, b, k, v, f)).1 1) 1 1 ((mdX (ys y 1 (y.1 0)) (w, a, b, k, v, f)).1 0 1 1) = _
    rw [mx_wn _ _ _ _ _ _ _ (by decide), mx_w, ys_at, hg]
    funext r c
    rw [u2_at]; split
    · rename_i h; rw [h.1, h.2]
    · rfl
  rw [e]
  refine ⟨by rw [ys_at]; rfl, ?_, j.2.2.1, j.2.2.2.1, j.2.2.2.2.1, j.2.2.2.2.2.1, j.2.2.2.2.2.2.1, j.2.2.2.2.2.2.2.1, j.2.2.2.2.2.2.2.2⟩
  rw [ys_ne (by decide), j.2.1, ys_ne (by decide)]
theorem k_X13_items {l : Launch} {D : va_G} {L : Nat → Nat} {A : Nat → Prop} (y : mst) (n : Nat) (hR : rOkM y n) (w : wd) (a b k v : Nat) (f : Option Nat) (hs : wOk w) : Met l yX13_items (ws_ yX13_items cX13_items 2 (some .int)) ({ frames := 6, cells := 0, slots := 0, locals := 132 } : Room) (va_Pc [.ref (L 0)] (pI D (cfM D L (mdX y (w, a, b, k, v, f))) A)) (nQ D (cfM D L (mdX y (isM (y.2.1 2) n (w, a, b, k, v, f)).2)) A (some (.int (nI (isM (y.2.1 2) n (w, a, b, k, v, f)).1)))) 0 0 A := by
  refine met_I (by decide) rfl (Nat.le_of_ble_eq_true rfl) ?_
  intro p e s m below meth c ls hx hb hr hml hown hts hlocks hl hI hK
  have F : CallFix p m c cX13_items 2 s _ lw_all RX13 := ⟨hx, hb, hml, hown, hts⟩
  have hl : lv_has ls 2 [(0, .ref (L 0))] := hl
  have hS : va_S A s.heap s.heap [] := va_S.rf
  obtain ⟨hrn, hrN, hrt⟩ := id hR
  have hsz : msW n (w, 0, b, k, v, none) := ⟨hs, Nat.zero_le _, fun b h => by cases h⟩
  refine lv_aload_n hx hb dX13_items_0 rfl (lv_at hl 0 rfl) ?_
  refine lv_iconst (v := 0) hx hb dX13_items_1 (by decide) ?_
  refine r_put (C := RX13) (T := TX13) (N := 18) (cf' := cfM D L (yr (mdX y (w, a, b, k, v, f)) 0 2 (nI 0))) hx hb hts in_X13 tyX13 tyX13_ok nmX13 hown hK hI hS (mf_main) rfl 9 (by decide) (hts _ q1173) (fun _ h => h) rfl (ty := .int) (by decide +kernel) rfl rfl (Nat.le_of_ble_eq_true rfl) (ms_main rfl (fun _ => rfl) (fun _ h => u2_ne h)) dX13_items_2 (fun H1 locs1 hI hS => ?_)
  rw [mx_s2] at hI
  refine lv_aload_n hx hb dX13_items_5 rfl (lv_at hl 0 rfl) ?_
  refine lv_iconst (v := (-1)) hx hb dX13_items_6 (by decide) ?_
  refine r_put (C := RX13) (T := TX13) (N := 18) (cf' := cfM D L (yr (mdX y (w, 0, b, k, v, f)) 0 5 (fI none))) hx hb hts in_X13 tyX13 tyX13_ok nmX13 hown hK hI hS (mf_main) rfl 13 (by decide) (hts _ q1177) (fun _ h => h) rfl (ty := .int) (by decide +kernel) rfl rfl (Nat.le_of_ble_eq_true rfl) (ms_main rfl (fun _ => rfl) (fun _ h => u2_ne h)) dX13_items_7 (fun H1 locs1 hI hS => ?_)
  rw [mx_s5] at hI
  refine lv_aload_n hx hb dX13_items_10 rfl (lv_at hl 0 rfl) ?_
  refine c_m (k_V (As := []) (rest := []) F (k_X13_next y n hR w 0 b k v none hsz) (cwV 0 hts (lw_V q1505 q1507 qs78 q107 q1508) rfl rfl rfl (by decide +kernel) ⟨Nat.le_of_ble_eq_true rfl, Nat.le_of_ble_eq_true rfl⟩) hI hK (hw.recv hI hK (mf_main) rfl) rfl hl.1 rfl (Nat.le_of_ble_eq_true rfl) dX13_items_11 ⟨Nat.le_of_ble_eq_true rfl, Nat.le_of_ble_eq_true rfl⟩) hS (fun H1 locs1 hI hS => ?_)
  have hs1 := okM_next hrt hrN hsz
  rcases hq1 : nextM (y.2.1 2) n (w, 0, b, k, v, none) with ⟨w1, a1, b1, k1, v1, f1⟩
  have hI : hw D (cfM D L (mdX y (w1, a1, b1, k1, v1, f1))) A H1 := by rw [hq1] at hI; exact hI
  rw [hq1] at hs1
  obtain ⟨⟨hs1, hg1, hm1⟩, hw1, hff1, hn1⟩ := hs1
  have hm1 : 0 ≤ a1 := hm1
  have hg1 : w1 1 1 = w 1 1 := hg1
  have hw1 : w1 = w := hw1
  have hk1 : k1 < 5 := hs1.2.2.2.1
  have hv1 : k1 = 2 → v1 < 1000010 := hs1.2.2.2.2.1
  have hu1 : v1 < 4611686018427387904 := hs1.2.2.2.2.2.1
  have ha1 : a1 ≤ n := hs1.2.1
  have h81 : wN w1 ≤ 8 := (wOk.n hs1.1).2
  refine lv_aload_n hx hb dX13_items_14 rfl (lv_at hl 0 rfl) ?_
  refine c_m (k_V (As := []) (rest := []) F (k_X13_item y n hR w1 a1 b1 k1 v1 f1 hs1) (cwV 0 hts (lw_V q1523 q1525 qs80 q107 q1526) rfl rfl rfl (by decide +kernel) ⟨Nat.le_of_ble_eq_true rfl, Nat.le_of_ble_eq_true rfl⟩) hI hK (hw.recv hI hK (mf_main) rfl) rfl hl.1 rfl (Nat.le_of_ble_eq_true rfl) dX13_items_15 ⟨Nat.le_of_ble_eq_true rfl, Nat.le_of_ble_eq_true rfl⟩) hS (fun H1 locs1 hI hS => ?_)
  have hs2 := okM_it hrt hrN hs1
  rcases hq2 : itM (y.2.1 2) n (w1, a1, b1, k1, v1, f1) with ⟨w2, a2, b2, k2, v2, f2⟩
  have hI : hw D (cfM D L (mdX y (w2, a2, b2, k2, v2, f2))) A H1 := by rw [hq2] at hI; exact hI
  rw [hq2] at hs2
  obtain ⟨⟨hs2, hg2, hm2⟩, ht2⟩ := hs2
  have hm2 : a1 ≤ a2 := hm2
  have hg2 : w2 1 1 = w1 1 1 := hg2
  have hk2 : k2 < 5 := hs2.2.2.2.1
  have hv2 : k2 = 2 → v2 < 1000010 := hs2.2.2.2.2.1
  have hu2 : v2 < 4611686018427387904 := hs2.2.2.2.2.2.1
  have ha2 : a2 ≤ n := hs2.2.1
  have h82 : wN w2 ≤ 8 := (wOk.n hs2.1).2
  refine lv_iconst (v := 1) hx hb dX13_items_18 (by decide) ?_
  refine lv_istore_n (lv' := [(1, .int 1), (0, .ref (L 0))]) hx hb dX13_items_19 rfl hl (by decide) rfl (fun ls hl => ?_)
  have lp20 : ∀ (fuel : Nat) (g : Nat) (c9 : Nat) (wx : wd) (ax : Nat) (bx : Nat) (kx : Nat) (vx : Nat) (fx : Option Nat), (msOk n (wx, ax, bx, kx, vx, fx)) → (fx = none → n - ax < g) → (isM (y.2.1 2) n (w, a, b, k, v, f) = lpM (y.2.1 2) n g c9 (wx, ax, bx, kx, vx, fx)) → g < fuel → ∀ (v1 : Int32), v1 = nI c9 → ∀ (H : Heap) (locs : List Loc), hw D (cfM D L (mdX y (wx, ax, bx, kx, vx, fx))) A H → va_S A s.heap H locs → ∀ (ls : Array Slot), lv_has ls 2 [(0, .ref (L 0)), (1, .int v1)] → W p l e ({ frames := 6, cells := 0, slots := 0, locals := 132 } : Room) s m ([.ref (L 0)] : List Value).toArray below meth c H locs 0 0 (MQ below (nQ D (cfM D L (mdX y (isM (y.2.1 2) n (w, a, b, k, v, f)).2)) A (some (.int (nI (isM (y.2.1 2) n (w, a, b, k, v, f)).1)))) ([.ref (L 0)] : List Value).toArray s 0 0 A) (F0 m 20 ls []) := by
    intro fuel
    induction fuel with
    | zero => intro g c9 wx ax bx kx vx fx hsx hgx hqx hf; exact absurd hf (Nat.not_lt_zero _)
    | succ fuel ih20 =>
      intro g c9 wx ax bx kx vx fx hsx hgx hqx hf20 v1 e1 H locs hI hS ls hl
      subst e1
      have hax : ax ≤ n := hsx.2.1
      have hkx : kx < 5 := hsx.2.2.2.1
      refine lv_aload_n hx hb dX13_items_20 rfl (lv_at hl 0 rfl) ?_
      refine r_get (v := .int (fI fx)) (C := RX13) (T := TX13) (N := 18) hx hb hts in_X13 hown hK hI (mf_main) rfl 13 (by decide) (hts _ q1177) (fun _ h => h) (rdv (mx_5 y wx ax bx kx vx fx)) dX13_items_21 ?_
      refine lv_if_ge (tgt := 49) hx hb dX13_items_24 (by decide) (fun c_24 => ?_) (fun c_24 => ?_)
      · skip
        have c_24 := Int32.not_lt.mpr c_24
        have hf_24 : ¬ fx = none := fun z => c_24 ((fI_lt hsx.2.2.2.2.2.2).mpr z)
        refine lv_aload_n hx hb dX13_items_49 rfl (lv_at hl 0 rfl) ?_
        refine r_get (v := .int (fI fx)) (C := RX13) (T := TX13) (N := 18) hx hb hts in_X13 hown hK hI (mf_main) rfl 13 (by decide) (hts _ q1177) (fun _ h => h) (rdv (mx_5 y wx ax bx kx vx fx)) dX13_items_50 ?_
        refine lv_if_ge (tgt := 67) hx hb dX13_items_53 (by decide) (fun c_53 => ?_) (fun c_53 => ?_)
        · skip
          have c_53 := Int32.not_lt.mpr c_53
          have hf_53 : ¬ fx = none := fun z => c_53 ((fI_lt hsx.2.2.2.2.2.2).mpr z)
          refine lv_iload_n hx hb dX13_items_67 rfl (lv_at hl 1 rfl) ?_
          exact W.iret hx hb hr (fun t ht _ => ⟨rI (by first | (rw [hqx, lp_x (fun z => hf_24 z.1) (fun z => absurd z hf_24)]; done) | (rw [hqx, lp_x (fun z => c_32 z.2) (fun z => by have := hgx z; omega)])), by rw [ht]; exact hw_eq hI (congrArg (fun z => cfM D L (mdX y z)) (by first | (rw [hqx, lp_x (fun z => hf_24 z.1) (fun z => absurd z hf_24), en_n (fun z => hf_24 z.1)]; done) | (rw [hqx, lp_x (fun z => c_32 z.2) (fun z => by have := hgx z; omega), en_n (fun z => z.2 c_60)]; done) | (rw [hqx, lp_x (fun z => c_32 z.2) (fun z => by have := hgx z; omega), en_y hf_24 c_60, ]))), hS.F ht⟩) hS.2.2 dX13_items_68
        · skip
          have c_53 := Int32.not_le.mp c_53
          have hf_53 : fx = none := (fI_lt hsx.2.2.2.2.2.2).mp c_53
          exact absurd hf_53 hf_24
      · skip
        have c_24 := Int32.not_le.mp c_24
        have hf_24 : fx = none := (fI_lt hsx.2.2.2.2.2.2).mp c_24
        refine lv_aload_n hx hb dX13_items_27 rfl (lv_at hl 0 rfl) ?_
        refine r_get (v := .int (nI kx)) (C := RX13) (T := TX13) (N := 18) hx hb hts in_X13 hown hK hI (mf_main) rfl 10 (by decide) (hts _ q1174) (fun _ h => h) (rdv (mx_3 y wx ax bx kx vx fx)) dX13_items_28 ?_
        refine lv_iconst (v := 3) hx hb dX13_items_31 (by decide) ?_
        refine lv_icmp_ne (tgt := 49) hx hb dX13_items_32 (by decide) (fun c_32 => ?_) (fun c_32 => ?_)
        · skip
          have c_32 : ¬ kx = 3 := fun z => c_32 ((neq (a := kx) (b := 3) (rfl) (rfl) (by omega) (by omega)).mpr z)
          refine lv_aload_n hx hb dX13_items_49 rfl (lv_at hl 0 rfl) ?_
          refine r_get (v := .int (fI fx)) (C := RX13) (T := TX13) (N := 18) hx hb hts in_X13 hown hK hI (mf_main) rfl 13 (by decide) (hts _ q1177) (fun _ h => h) (rdv (mx_5 y wx ax bx kx vx fx)) dX13_items_50 ?_
          refine lv_if_ge (tgt := 67) hx hb dX13_items_53 (by decide) (fun c_53 => ?_) (fun c_53 => ?_)
          · skip
            have c_53 := Int32.not_lt.mpr c_53
            have hf_53 : ¬ fx = none := fun z => c_53 ((fI_lt hsx.2.2.2.2.2.2).mpr z)
            exact absurd hf_24 hf_53
          · skip
            have c_53 := Int32.not_le.mp c_53
            have hf_53 : fx = none := (fI_lt hsx.2.2.2.2.2.2).mp c_53
            refine lv_aload_n hx hb dX13_items_56 rfl (lv_at hl 0 rfl) ?_
            refine r_get (v := .int (nI kx)) (C := RX13) (T := TX13) (N := 18) hx hb hts in_X13 hown hK hI (mf_main) rfl 10 (by decide) (hts _ q1174) (fun _ h => h) (rdv (mx_3 y wx ax bx kx vx fx)) dX13_items_57 ?_
            refine lv_if_eq (tgt := 67) hx hb dX13_items_60 (by decide) (fun c_60 => ?_) (fun c_60 => ?_)
            · skip
              have c_60 : kx = 0 := (neq (a := kx) (b := 0) (rfl) (rfl) (by omega) (by omega)).mp c_60
              refine lv_iload_n hx hb dX13_items_67 rfl (lv_at hl 1 rfl) ?_
              exact W.iret hx hb hr (fun t ht _ => ⟨rI (by first | (rw [hqx, lp_x (fun z => hf_24 z.1) (fun z => absurd z hf_24)]; done) | (rw [hqx, lp_x (fun z => c_32 z.2) (fun z => by have := hgx z; omega)])), by rw [ht]; exact hw_eq hI (congrArg (fun z => cfM D L (mdX y z)) (by first | (rw [hqx, lp_x (fun z => hf_24 z.1) (fun z => absurd z hf_24), en_n (fun z => hf_24 z.1)]; done) | (rw [hqx, lp_x (fun z => c_32 z.2) (fun z => by have := hgx z; omega), en_n (fun z => z.2 c_60)]; done) | (rw [hqx, lp_x (fun z => c_32 z.2) (fun z => by have := hgx z; omega), en_y hf_24 c_60, ]))), hS.F ht⟩) hS.2.2 dX13_items_68
            · skip
              have c_60 : ¬ kx = 0 := fun z => c_60 ((neq (a := kx) (b := 0) (rfl) (rfl) (by omega) (by omega)).mpr z)
              refine lv_aload_n hx hb dX13_items_63 rfl (lv_at hl 0 rfl) ?_
              refine c_m (k_V (As := []) (rest := []) F (k_X13_wrongHere y n hR wx ax bx kx vx fx hsx) (cwV 0 hts (lw_V q1546 q1548 qs84 q107 q1549) rfl rfl rfl (by decide +kernel) ⟨Nat.le_of_ble_eq_true rfl, Nat.le_of_ble_eq_true rfl⟩) hI hK (hw.recv hI hK (mf_main) rfl) rfl hl.1 rfl (Nat.le_of_ble_eq_true rfl) dX13_items_64 ⟨Nat.le_of_ble_eq_true rfl, Nat.le_of_ble_eq_true rfl⟩) hS (fun H1 locs1 hI hS => ?_)
              have hs3 := okM_wr hsx
              rcases hq3 : wrM (wx, ax, bx, kx, vx, fx) with ⟨w3, a3, b3, k3, v3, f3⟩
              have hI : hw D (cfM D L (mdX y (w3, a3, b3, k3, v3, f3))) A H1 := by rw [hq3] at hI; exact hI
              rw [hq3] at hs3
              obtain ⟨⟨hs3, hg3, hm3⟩, hw3⟩ := hs3
              have hm3 : ax ≤ a3 := hm3
              have hg3 : w3 1 1 = wx 1 1 := hg3
              have hw3 : w3 = wx := hw3
              have hk3 : k3 < 5 := hs3.2.2.2.1
              have hv3 : k3 = 2 → v3 < 1000010 := hs3.2.2.2.2.1
              have hu3 : v3 < 4611686018427387904 := hs3.2.2.2.2.2.1
              have ha3 : a3 ≤ n := hs3.2.1
              have h83 : wN w3 ≤ 8 := (wOk.n hs3.1).2
              refine lv_iload_n hx hb dX13_items_67 rfl (lv_at hl 1 rfl) ?_
              exact W.iret hx hb hr (fun t ht _ => ⟨rI (by first | (rw [hqx, lp_x (fun z => hf_24 z.1) (fun z => absurd z hf_24)]; done) | (rw [hqx, lp_x (fun z => c_32 z.2) (fun z => by have := hgx z; omega)])), by rw [ht]; exact hw_eq hI (congrArg (fun z => cfM D L (mdX y z)) (by first | (rw [hqx, lp_x (fun z => hf_24 z.1) (fun z => absurd z hf_24), en_n (fun z => hf_24 z.1)]; done) | (rw [hqx, lp_x (fun z => c_32 z.2) (fun z => by have := hgx z; omega), en_n (fun z => z.2 c_60)]; done) | (rw [hqx, lp_x (fun z => c_32 z.2) (fun z => by have := hgx z; omega), en_y hf_24 c_60, hq3]))), hS.F ht⟩) hS.2.2 dX13_items_68
        · skip
          have c_32 : kx = 3 := (neq (a := kx) (b := 3) (rfl) (rfl) (by omega) (by omega)).mp c_32
          obtain ⟨g, rfl⟩ : ∃ z, g = z + 1 := ⟨g - 1, by have := hgx hf_24; omega⟩
          refine lv_aload_n hx hb dX13_items_35 rfl (lv_at hl 0 rfl) ?_
          refine c_m (k_V (As := []) (rest := []) F (k_X13_next y n hR wx ax bx kx vx fx (msOk.w hsx)) (cwV 0 hts (lw_V q1505 q1507 qs78 q107 q1508) rfl rfl rfl (by decide +kernel) ⟨Nat.le_of_ble_eq_true rfl, Nat.le_of_ble_eq_true rfl⟩) hI hK (hw.recv hI hK (mf_main) rfl) rfl hl.1 rfl (Nat.le_of_ble_eq_true rfl) dX13_items_36 ⟨Nat.le_of_ble_eq_true rfl, Nat.le_of_ble_eq_true rfl⟩) hS (fun H1 locs1 hI hS => ?_)
          have hs4 := okM_next hrt hrN (msOk.w hsx)
          rcases hq4 : nextM (y.2.1 2) n (wx, ax, bx, kx, vx, fx) with ⟨w4, a4, b4, k4, v4, f4⟩
          have hI : hw D (cfM D L (mdX y (w4, a4, b4, k4, v4, f4))) A H1 := by rw [hq4] at hI; exact hI
          rw [hq4] at hs4
          obtain ⟨⟨hs4, hg4, hm4⟩, hw4, hff4, hn4⟩ := hs4
          have hm4 : ax ≤ a4 := hm4
          have hg4 : w4 1 1 = wx 1 1 := hg4
          have hw4 : w4 = wx := hw4
          have hk4 : k4 < 5 := hs4.2.2.2.1
          have hv4 : k4 = 2 → v4 < 1000010 := hs4.2.2.2.2.1
          have hu4 : v4 < 4611686018427387904 := hs4.2.2.2.2.2.1
          have ha4 : a4 ≤ n := hs4.2.1
          have h84 : wN w4 ≤ 8 := (wOk.n hs4.1).2
          refine lv_aload_n hx hb dX13_items_39 rfl (lv_at hl 0 rfl) ?_
          refine c_m (k_V (As := []) (rest := []) F (k_X13_item y n hR w4 a4 b4 k4 v4 f4 hs4) (cwV 0 hts (lw_V q1523 q1525 qs80 q107 q1526) rfl rfl rfl (by decide +kernel) ⟨Nat.le_of_ble_eq_true rfl, Nat.le_of_ble_eq_true rfl⟩) hI hK (hw.recv hI hK (mf_main) rfl) rfl hl.1 rfl (Nat.le_of_ble_eq_true rfl) dX13_items_40 ⟨Nat.le_of_ble_eq_true rfl, Nat.le_of_ble_eq_true rfl⟩) hS (fun H1 locs1 hI hS => ?_)
          have hs5 := okM_it hrt hrN hs4
          rcases hq5 : itM (y.2.1 2) n (w4, a4, b4, k4, v4, f4) with ⟨w5, a5, b5, k5, v5, f5⟩
          have hI : hw D (cfM D L (mdX y (w5, a5, b5, k5, v5, f5))) A H1 := by rw [hq5] at hI; exact hI
          rw [hq5] at hs5
          obtain ⟨⟨hs5, hg5, hm5⟩, ht5⟩ := hs5
          have hm5 : a4 ≤ a5 := hm5
          have hg5 : w5 1 1 = w4 1 1 := hg5
          have hk5 : k5 < 5 := hs5.2.2.2.1
          have hv5 : k5 = 2 → v5 < 1000010 := hs5.2.2.2.2.1
          have hu5 : v5 < 4611686018427387904 := hs5.2.2.2.2.2.1
          have ha5 : a5 ≤ n := hs5.2.1
          have h85 : wN w5 ≤ 8 := (wOk.n hs5.1).2
          refine lv_iinc (v := (nI (c9 + 1))) (lv' := [(1, .int (nI (c9 + 1))), (0, .ref (L 0))]) hx hb dX13_items_43 hl (k := 1) rfl (nI_1 _) (by decide) rfl (fun ls hl => ?_)
          refine lv_goto (tgt := 20) hx hb dX13_items_46 (by decide) ?_
          exact ih20 (g) (c9 + 1) (w5) (a5) (b5) (k5) (v5) (f5) (hs5) (fun z => by have q1 : ax < a4 := hn4 (ht5 z); have q2 := hgx hf_24; omega) (by rw [hqx, lp_y hf_24 c_32]; simp only [hq4, hq5]) (by omega) _ (rfl) _ _ hI hS ls (lv_sub hl [1, 0] rfl)
  exact lp20 (_ + 1) (200) (1) (w2) (a2) (b2) (k2) (v2) (f2) (hs2) (fun _ => by omega) (by simp only [isM, hq1, hq2]) (Nat.lt_succ_self _) _ (rfl) _ _ hI hS ls (lv_sub hl [1, 0] rfl)
theorem k_X13_text {l : Launch} {D : va_G} {L : Nat → Nat} {A : Nat → Prop} (y : mst) (hO : wOk (y.1 0)) (tn : Nat) (ht9 : tn ≤ 120) (et : y.2.1 0 1 = nI tn) (htp : tpOk (y.2.1 2)) (a b k v : Nat) (f : Option Nat) (h1 : y.2.1 0 2 = nI a) (h2 : y.2.1 0 4 = nI b) (h3 : y.2.1 0 3 = nI k) (h4 : y.2.2 = nL v) (h5 : y.2.1 0 5 = fI f) : Met l yX13_text (ws_ yX13_text cX13_text 2 (some .int)) ({ frames := 7, cells := 0, slots := 0, locals := 153 } : Room) (va_Pc [.ref (L 0)] (pI D (cfM D L y) A)) (jMQ D L (tyC y (isM (y.2.1 2) tn (y.1 0, a, b, k, v, f))) A (some (.int (tyR (isM (y.2.1 2) tn (y.1 0, a, b, k, v, f)))))) 0 0 A := by
  refine met_I (by decide) rfl (Nat.le_of_ble_eq_true rfl) ?_
  intro p e s m below meth c ls hx hb hr hml hown hts hlocks hl hI hK
  have F : CallFix p m c cX13_text 2 s _ lw_all RX13 := ⟨hx, hb, hml, hown, hts⟩
  have hl : lv_has ls 2 [(0, .ref (L 0))] := hl
  have hS : va_S A s.heap s.heap [] := va_S.rf
  refine lv_aload_n hx hb dX13_text_0 rfl (lv_at hl 0 rfl) ?_
  refine r_get (C := RX13) (T := TX13) (N := 18) hx hb hts in_X13 hown hK hI (mf_main) rfl 0 (by decide) (hts _ q1164) (fun _ h => h) rfl dX13_text_1 ?_
  refine lv_aload_n hx hb dX13_text_4 rfl (lv_at hl 0 rfl) ?_
  refine r_get (C := RX13) (T := TX13) (N := 18) hx hb hts in_X13 hown hK hI (mf_main) rfl 1 (by decide) (hts _ q1165) (fun _ h => h) rfl dX13_text_5 ?_
  refine c_m (k_SI (As := [.ref (L 1), .ref (L 2)]) (rest := []) F (k_X13_copies (cf' := cfM D L (ys y 1 (y.1 0))) mf_d mf_e (by decide) (ms_wn (w := 1) (by decide) (by decide) rfl)) (va_cwS 2 hts (lw_S q1391 q1392 q107 q1393) rfl rfl rfl (by decide +kernel) ⟨Nat.le_of_ble_eq_true rfl, Nat.le_of_ble_eq_true rfl⟩) hI hK rfl hl.1 rfl (Nat.le_of_ble_eq_true rfl) dX13_text_8 ⟨Nat.le_of_ble_eq_true rfl, Nat.le_of_ble_eq_true rfl⟩) hS (fun H1 locs1 hI hS => ?_)
  obtain ⟨x1, ex1⟩ : ∃ z, z = ys y 1 (y.1 0) := ⟨_, rfl⟩
  rw [← ex1] at hI
  refine lv_aload_n hx hb dX13_text_11 rfl (lv_at hl 0 rfl) ?_
  have e1 : x1.2 = y.2 := by rw [ex1]; rfl
  have e7 : x1.1 0 = y.1 0 := by rw [ex1]; exact ys_ne (by decide)
  have hR : rOkM x1 tn := ⟨by rw [e1]; exact et, ht9, by rw [e1]; exact htp⟩
  have e8 : mdX x1 (y.1 0, a, b, k, v, f) = x1 := mx_self e7 (by rw [e1]; exact h1) (by rw [e1]; exact h2) (by rw [e1]; exact h3) (by rw [e1]; exact h4) (by rw [e1]; exact h5)
  rw [← e8] at hI
  refine c_m (k_V (As := []) (rest := []) F (k_X13_items x1 tn hR (y.1 0) a b k v f hO) (cwV 0 hts (lw_V q1501 q1503 qs77 q107 q1504) rfl rfl rfl (by decide +kernel) ⟨Nat.le_of_ble_eq_true rfl, Nat.le_of_ble_eq_true rfl⟩) hI hK (hw.recv hI hK (mf_main) rfl) rfl hl.1 rfl (Nat.le_of_ble_eq_true rfl) dX13_text_12 ⟨Nat.le_of_ble_eq_true rfl, Nat.le_of_ble_eq_true rfl⟩) hS (fun H1 locs1 hI hS => ?_)
  have hs1 := okM_is (a := a) (b := b) (k := k) (v := v) (f := f) (w := y.1 0) htp ht9 hO
  rw [show x1.2.1 2 = y.2.1 2 from by rw [e1]] at hI ⊢
  rcases hq : isM (y.2.1 2) tn (y.1 0, a, b, k, v, f) with ⟨z1, w1, a1, b1, k1, v1, f1⟩
  rw [hq] at hs1 hI
  obtain ⟨hs1, hg1⟩ := hs1
  have hf1 : ∀ b, f1 = some b → b ≤ 120 := hs1.2.2.2.2.2.2
  obtain ⟨x5, ex5⟩ : ∃ z, z = mdX x1 (w1, a1, b1, k1, v1, f1) := ⟨_, rfl⟩
  have hI : hw D (cfM D L x5) A H1 := by rw [ex5]; exact hI
  have e9 : x5.2.1 0 5 = fI f1 := by rw [ex5]; exact mx_5 _ _ _ _ _ _ _
  refine lv_istore_n (lv' := [(1, .int (nI z1)), (0, .ref (L 0))]) hx hb dX13_text_15 rfl hl (by decide) rfl (fun ls hl => ?_)
  refine lv_aload_n hx hb dX13_text_16 rfl (lv_at hl 1 rfl) ?_
  refine lv_iconst (v := 0) hx hb dX13_text_17 (by decide) ?_
  obtain ⟨x2, ex2⟩ : ∃ z, z = yr x5 0 1 0 := ⟨_, rfl⟩
  refine r_put (C := RX13) (T := TX13) (N := 18) (cf' := cfM D L x2) hx hb hts in_X13 tyX13 tyX13_ok nmX13 hown hK hI hS (mf_main) rfl 7 (by decide) (hts _ q1171) (fun _ h => h) rfl (ty := .int) (by decide +kernel) rfl rfl (Nat.le_of_ble_eq_true rfl) (by rw [ex2]; exact ms_main rfl (fun _ => rfl) (fun _ h => u2_ne h)) dX13_text_18 (fun H1 locs1 hI hS => ?_)
  refine lv_aload_n hx hb dX13_text_21 rfl (lv_at hl 1 rfl) ?_
  refine r_get (C := RX13) (T := TX13) (N := 18) hx hb hts in_X13 hown hK hI (mf_main) rfl 13 (by decide) (hts _ q1177) (fun _ h => h) rfl dX13_text_22 ?_
  refine lv_if_lt (tgt := 46) hx hb dX13_text_25 (by decide) (fun c_25 => ?_) (fun c_25 => ?_)
  · skip
    have hf_25 : f1 = none := by rw [show x2.2.1 0 5 = fI f1 from by rw [ex2]; exact (show u2 x5.2.1 0 1 0 0 5 = _ by rw [u2_at, if_neg (by decide)]; exact e9)] at c_25; exact (fI_lt hf1).mp c_25
    refine lv_iload_n hx hb dX13_text_46 rfl (lv_at hl 0 rfl) ?_
    exact W.iret hx hb hr (fun t ht _ => ⟨rI (by exact (if_pos hf_25).symm), ⟨x2, (by rw [show tyC y (z1, w1, a1, b1, k1, v1, f1) = ys (yr y 0 1 0) 0 w1 from if_pos hf_25, ex2, ex5, ex1]; exact ty_j1), by rw [ht]; exact hI⟩, hS.F ht⟩) hS.2.2 dX13_text_47
  · skip
    have hf_25 : ¬ f1 = none := fun z => by rw [show x2.2.1 0 5 = fI f1 from by rw [ex2]; exact (show u2 x5.2.1 0 1 0 0 5 = _ by rw [u2_at, if_neg (by decide)]; exact e9)] at c_25; exact c_25 ((fI_lt hf1).mpr z)
    refine lv_aload_n hx hb dX13_text_28 rfl (lv_at hl 1 rfl) ?_
    refine r_get (C := RX13) (T := TX13) (N := 18) hx hb hts in_X13 hown hK hI (mf_main) rfl 1 (by decide) (hts _ q1165) (fun _ h => h) rfl dX13_text_29 ?_
    refine lv_aload_n hx hb dX13_text_32 rfl (lv_at hl 1 rfl) ?_
    refine r_get (C := RX13) (T := TX13) (N := 18) hx hb hts in_X13 hown hK hI (mf_main) rfl 0 (by decide) (hts _ q1164) (fun _ h => h) rfl dX13_text_33 ?_
    refine c_m (k_SI (As := [.ref (L 2), .ref (L 1)]) (rest := []) F (k_X13_copies (cf' := cfM D L (ys x2 0 (u2 (x2.1 1) 1 1 (x2.1 0 1 1)))) mf_e mf_d (by decide) (ms_w (w := 0) (by decide) (mu_gone _ _) (by rw [u2_at, if_pos ⟨rfl, rfl⟩]))) (va_cwS 2 hts (lw_S q1391 q1392 q107 q1393) rfl rfl rfl (by decide +kernel) ⟨Nat.le_of_ble_eq_true rfl, Nat.le_of_ble_eq_true rfl⟩) hI hK rfl hl.1 rfl (Nat.le_of_ble_eq_true rfl) dX13_text_36 ⟨Nat.le_of_ble_eq_true rfl, Nat.le_of_ble_eq_true rfl⟩) hS (fun H1 locs1 hI hS => ?_)
    obtain ⟨x3, ex3⟩ : ∃ z, z = ys x2 0 (u2 (x2.1 1) 1 1 (x2.1 0 1 1)) := ⟨_, rfl⟩
    rw [← ex3] at hI
    refine lv_iconst (v := (-1)) hx hb dX13_text_39 (by decide) ?_
    refine lv_aload_n hx hb dX13_text_40 rfl (lv_at hl 1 rfl) ?_
    refine r_get (C := RX13) (T := TX13) (N := 18) hx hb hts in_X13 hown hK hI (mf_main) rfl 13 (by decide) (hts _ q1177) (fun _ h => h) rfl dX13_text_41 ?_
    rw [show x3.2.1 0 5 = fI f1 from by rw [ex3]; exact (show x2.2.1 0 5 = fI f1 from by rw [ex2]; exact (show u2 x5.2.1 0 1 0 0 5 = _ by rw [u2_at, if_neg (by decide)]; exact e9))]
    refine lv_isub hx hb dX13_text_44 ?_
    exact W.iret hx hb hr (fun t ht _ => ⟨rI (by exact (if_neg hf_25).symm), ⟨x3, (by rw [show tyC y (z1, w1, a1, b1, k1, v1, f1) = yr y 0 1 0 from if_neg hf_25, ex3]; exact ty_j2 hg1 (by rw [ex2, ex5, ex1])), by rw [ht]; exact hI⟩, hS.F ht⟩) hS.2.2 dX13_text_45
