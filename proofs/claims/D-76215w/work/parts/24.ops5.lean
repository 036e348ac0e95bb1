/-! LeftGloves: who may stay away -/
theorem wOk_g {f : wd} (h : wOk f) (v : Int32) : wOk (u2 f 1 1 v) := by
  refine ⟨?_, fun j hj => ?_, fun i hi => ?_, ?_, fun j hj => ?_⟩
  · rw [u2_at, if_neg (by decide)]; exact h.1
  · have := h.2.1 j hj
    unfold gOk at this ⊢
    simpa [u2_ne] using this
  · rw [u2_ne (by decide)]; exact h.2.2.1 i hi
  · rw [u2_at, if_neg (by decide)]; exact h.2.2.2.1
  · rw [u2_ne (by decide)]; exact h.2.2.2.2 j hj
def faS (f : wd) (k : Nat) (t : Int32) (n : Nat) (s : Nat) (b : Int32) : Int32 := if hsI (nI s) (nI k) = 0 then (if b = -1 then (if dkI (u2 f 1 1 (nI s)) k t n = 0 then b else nI s) else if bcI (nI s) < bcI b then (if dkI (u2 f 1 1 (nI s)) k t n = 0 then b else nI s) else b) else b
def faI (f : wd) (k : Nat) (t : Int32) (n : Nat) : Int32 := itr (faS f k t n) (-1) (2 ^ wN f)
def a_away (f : wd) (g t n : Int32) : act := if isGlI f g = 0 then .inl 0 else if inI t 0 15 = 0 then .inl 0 else if inI n 0 20 = 0 then .inl 0 else a_orN f (faI f g.toNatClampNeg t n.toNatClampNeg)
theorem g_row {f g : wd} (h : ∀ v, u2 g 1 1 v = u2 f 1 1 v) : g 1 0 = f 1 0 := by
  have := congrFun (congrFun (h 0) 1) 0
  rw [u2_at, u2_at, if_neg (by decide), if_neg (by decide)] at this
  exact this
theorem k_X0_doesKnowBehind {l : Launch} {D : va_G} {L : Nat → Nat} {A : Nat → Prop} (x : cst) (hO : wOk (x.1 0)) (hd : isN (x.1 0 1 2) 10000) (k : Nat) (t : Int32) (n : Nat) (hk : k < 8) (hn : n ≤ 1000) : Met l yX0_doesKnowBehind (wsW_ yX0_doesKnowBehind cX0_doesKnowBehind 6 (some .boolean) [((11 : Nat), (32 : Nat), (46 : Nat), (0 : Nat)), ((46 : Nat), (48 : Nat), (46 : Nat), (0 : Nat))]) ({ frames := 7, cells := 0, slots := 0, locals := 152 } : Room) (va_Pc [.ref (L 44), .int (nI k), .int t, .int (nI n)] (pI D (cfC D L x) A)) (nQ D (cfC D L (xs x 2 (x.1 0))) A (some (.int (dkI (x.1 0) k t n)))) 0 0 A := by
  refine met_W (by decide) rfl (Nat.le_of_ble_eq_true rfl) ?_
  intro p e s m below meth c ls hx hb hr hml hown hts hlocks hl hI hK hhh
  have F : CallFix p m c cX0_doesKnowBehind 6 s _ lw_all RX0 := ⟨hx, hb, hml, hown, hts⟩
  have hl : lv_has ls 6 [(0, .ref (L 44)), (1, .int (nI k)), (2, .int t), (3, .int (nI n))] := hl
  have hS : va_S A s.heap s.heap [] := va_S.rf
  refine lv_aload_n hx hb dX0_doesKnowBehind_0 rfl (lv_at hl 0 rfl) ?_
  refine r_get (C := RX0) (T := TX0) (N := 11) hx hb hts in_X0 hown hK hI (cf_main) rfl 5 (by decide) (hts _ q403) (fun _ h => h) rfl dX0_doesKnowBehind_1 ?_
  refine lv_aload_n hx hb dX0_doesKnowBehind_4 rfl (lv_at hl 0 rfl) ?_
  refine r_get (C := RX0) (T := TX0) (N := 11) hx hb hts in_X0 hown hK hI (cf_main) rfl 3 (by decide) (hts _ q401) (fun _ h => h) rfl dX0_doesKnowBehind_5 ?_
  refine c_m (k_V (As := [.ref (L (11 * 0))]) (rest := []) F (k_X4_become x 2 (by decide) 0 (by decide) (by decide)) (cwV 1 hts (lw_V q776 q777 q778 q98 q779) rfl rfl rfl (by decide +kernel) ⟨Nat.le_of_ble_eq_true rfl, Nat.le_of_ble_eq_true rfl⟩) hI hK (hw.recv hI hK (cf_W (w := 2) (by decide)) rfl) rfl hl.1 rfl (Nat.le_of_ble_eq_true rfl) dX0_doesKnowBehind_8 ⟨Nat.le_of_ble_eq_true rfl, Nat.le_of_ble_eq_true rfl⟩) hS (fun H1 locs1 hI hS => ?_)
  obtain ⟨x1, ex1⟩ : ∃ z, z = xs x 2 (x.1 0) := ⟨_, rfl⟩
  rw [← ex1] at hI
  have hO_x1 : wOk (x1.1 0) := by rw [ex1, xs_ne (by decide)]; exact hO
  have hd_x1 : isN (x1.1 0 1 2) 10000 := by rw [ex1, xs_ne (by decide)]; exact hd
  refine lv_aload_n hx hb dX0_doesKnowBehind_11 rfl (lv_at hl 0 rfl) ?_
  refine lv_iload_n hx hb dX0_doesKnowBehind_12 rfl (lv_at hl 3 rfl) ?_
  refine c_m (k_V (As := [.int (nI n)]) (rest := []) F (k_X0_passes x1 (hO_x1) (hd_x1) n (by omega)) (cwV 1 hts (lw_V q709 q711 qs8 q91 q712) rfl rfl rfl (by decide +kernel) ⟨Nat.le_of_ble_eq_true rfl, Nat.le_of_ble_eq_true rfl⟩) hI hK (hw.recv hI hK (cf_main) rfl) rfl hl.1 rfl (Nat.le_of_ble_eq_true rfl) dX0_doesKnowBehind_13 ⟨Nat.le_of_ble_eq_true rfl, Nat.le_of_ble_eq_true rfl⟩) hS (fun H1 locs1 hI hS => ?_)
  obtain ⟨x2, ex2⟩ : ∃ z, z = xs x1 0 (psn (x1.1 0) n) := ⟨_, rfl⟩
  rw [← ex2] at hI
  have hO_x2 : wOk (x2.1 0) := by rw [ex2, xs_at, ex1, xs_ne (by decide)]; exact wOk_psn hO hd n (by omega)
  refine lv_aload_n hx hb dX0_doesKnowBehind_16 rfl (lv_at hl 0 rfl) ?_
  refine r_get (C := RX0) (T := TX0) (N := 11) hx hb hts in_X0 hown hK hI (cf_main) rfl 3 (by decide) (hts _ q401) (fun _ h => h) rfl dX0_doesKnowBehind_17 ?_
  refine lv_iconst (v := 1) hx hb dX0_doesKnowBehind_20 (by decide) ?_
  refine lv_iload_n hx hb dX0_doesKnowBehind_21 rfl (lv_at hl 1 rfl) ?_
  refine lv_ishl hx hb dX0_doesKnowBehind_22 ?_
  refine c_r (k_V (As := [.int ((1 : Int32) <<< ((nI k) &&& 31))]) (rest := []) F (k_X4_knownBoth x2 0 (by decide) (hO_x2) ((1 : Int32) <<< ((nI k) &&& 31))) (cwV 1 hts (lw_V q755 q756 q757 q98 q758) rfl rfl rfl (by decide +kernel) ⟨Nat.le_of_ble_eq_true rfl, Nat.le_of_ble_eq_true rfl⟩) hI hK (hw.recv hI hK (cf_W (w := 0) (by decide)) rfl) rfl hl.1 rfl (Nat.le_of_ble_eq_true rfl) dX0_doesKnowBehind_23 ⟨Nat.le_of_ble_eq_true rfl, Nat.le_of_ble_eq_true rfl⟩) ?_
  refine lv_iload_n hx hb dX0_doesKnowBehind_26 rfl (lv_at hl 2 rfl) ?_
  refine c_r (k_S (As := [.int (kbI (x2.1 0) ((1 : Int32) <<< ((nI k) &&& 31))), .int t]) (rest := []) F (k_X0_has (kbI (x2.1 0) ((1 : Int32) <<< ((nI k) &&& 31))) t) (va_cwS 2 hts (lw_S q481 q475 q91 q476) rfl rfl rfl (by decide +kernel) ⟨Nat.le_of_ble_eq_true rfl, Nat.le_of_ble_eq_true rfl⟩) rfl hl.1 rfl (Nat.le_of_ble_eq_true rfl) dX0_doesKnowBehind_27 ⟨Nat.le_of_ble_eq_true rfl, Nat.le_of_ble_eq_true rfl⟩) ?_
  refine lv_istore (lv' := [(4, .int (hsI (kbI (x2.1 0) ((1 : Int32) <<< ((nI k) &&& 31))) t)), (0, .ref (L 44)), (1, .int (nI k)), (2, .int t), (3, .int (nI n))]) hx hb dX0_doesKnowBehind_30 hl (by decide) rfl (fun ls hl => ?_)
  refine lv_aload_n hx hb dX0_doesKnowBehind_32 rfl (lv_at hl 1 rfl) ?_
  refine r_get (C := RX0) (T := TX0) (N := 11) hx hb hts in_X0 hown hK hI (cf_main) rfl 3 (by decide) (hts _ q401) (fun _ h => h) rfl dX0_doesKnowBehind_33 ?_
  refine lv_aload_n hx hb dX0_doesKnowBehind_36 rfl (lv_at hl 1 rfl) ?_
  refine r_get (C := RX0) (T := TX0) (N := 11) hx hb hts in_X0 hown hK hI (cf_main) rfl 5 (by decide) (hts _ q403) (fun _ h => h) rfl dX0_doesKnowBehind_37 ?_
  refine c_m (k_V (As := [.ref (L (11 * 2))]) (rest := []) F (k_X4_become x2 0 (by decide) 2 (by decide) (by decide)) (cwV 1 hts (lw_V q776 q777 q778 q98 q779) rfl rfl rfl (by decide +kernel) ⟨Nat.le_of_ble_eq_true rfl, Nat.le_of_ble_eq_true rfl⟩) hI hK (hw.recv hI hK (cf_W (w := 0) (by decide)) rfl) rfl hl.1 rfl (Nat.le_of_ble_eq_true rfl) dX0_doesKnowBehind_40 ⟨Nat.le_of_ble_eq_true rfl, Nat.le_of_ble_eq_true rfl⟩) hS (fun H1 locs1 hI hS => ?_)
  obtain ⟨x3, ex3⟩ : ∃ z, z = xs x2 0 (x2.1 2) := ⟨_, rfl⟩
  rw [← ex3] at hI
  refine lv_iload hx hb dX0_doesKnowBehind_43 (lv_at hl 0 rfl) ?_
  exact W.zret hx hb hr (t_bl2 (hsI_01 _ _)) (fun t ht _ => ⟨rI (by rw [ex2, xs_at, ex1, xs_ne (by decide)]; rfl), by rw [ht]; exact hw_eq hI (congrArg (cfC D L) (by rw [ex3, ex2, ex1]; simp only [xs_at, xs_ne (show (0 : Nat) ≠ 2 by decide), xs_ne (show (2 : Nat) ≠ 0 by decide), xs_xs]; exact xs_20 x)), hS.F ht⟩) hS.2.2 dX0_doesKnowBehind_45
set_option maxHeartbeats 1000000 in
theorem k_X0_fewestAway {l : Launch} {D : va_G} {L : Nat → Nat} {A : Nat → Prop} (x : cst) (hO : wOk (x.1 0)) (hd : isN (x.1 0 1 2) 10000) (hgo : x.1 0 1 1 = 0) (k : Nat) (t : Int32) (n : Nat) (hk : k < 8) (hn2 : n ≤ 1000) : Met l yX0_fewestAway (ws_ yX0_fewestAway cX0_fewestAway 7 (some .int)) ({ frames := 8, cells := 0, slots := 0, locals := 177 } : Room) (va_Pc [.ref (L 44), .int (nI k), .int t, .int (nI n)] (pI D (cfC D L x) A)) (jQ D L x A (some (.int (faI (x.1 0) k t n)))) 0 0 A := by
  refine met_I (by decide) rfl (Nat.le_of_ble_eq_true rfl) ?_
  intro p e s m below meth c ls hx hb hr hml hown hts hlocks hl hI hK
  have F : CallFix p m c cX0_fewestAway 7 s _ lw_all RX0 := ⟨hx, hb, hml, hown, hts⟩
  have hl : lv_has ls 7 [(0, .ref (L 44)), (1, .int (nI k)), (2, .int t), (3, .int (nI n))] := hl
  have hS : va_S A s.heap s.heap [] := va_S.rf
  obtain ⟨nn, hn, h8⟩ : ∃ n, x.1 0 1 0 = nI n ∧ n ≤ 8 := ⟨_, hO.n⟩
  have hN : wN (x.1 0) = nn := by unfold wN; rw [hn, nI_clamp (by omega)]
  obtain ⟨NN, hA, h255, hNN⟩ : ∃ N, allI (x.1 0) = nI N ∧ N ≤ 255 ∧ 2 ^ wN (x.1 0) = N + 1 := ⟨2 ^ nn - 1, (all_nat hn h8).1, (all_nat hn h8).2, by rw [hN]; have := Nat.two_pow_pos nn; omega⟩
  refine lv_iconst (v := (-1)) hx hb dX0_fewestAway_0 (by decide) ?_
  refine lv_istore (lv' := [(4, .int (-1)), (0, .ref (L 44)), (1, .int (nI k)), (2, .int t), (3, .int (nI n))]) hx hb dX0_fewestAway_1 hl (by decide) rfl (fun ls hl => ?_)
  refine lv_iconst (v := 0) hx hb dX0_fewestAway_3 (by decide) ?_
  refine lv_istore (lv' := [(5, .int 0), (4, .int (-1)), (0, .ref (L 44)), (1, .int (nI k)), (2, .int t), (3, .int (nI n))]) hx hb dX0_fewestAway_4 hl (by decide) rfl (fun ls hl => ?_)
  have lp6 : ∀ (fuel : Nat) (a : wd) (g : wd) (i : Nat), (i ≤ NN + 1) → (∀ v, u2 g 1 1 v = u2 (x.1 0) 1 1 v) → (wOk g) → NN + 1 - i < fuel → ∀ (v4 : Int32) (v5 : Int32), v4 = (itr (faS (x.1 0) k t n) (-1) i) → v5 = nI i → ∀ (xc6 : cst), xc6 = xs (xs x 2 a) 0 g → ∀ (H : Heap) (locs : List Loc), hw D (cfC D L xc6) A H → va_S A s.heap H locs → ∀ (ls : Array Slot), lv_has ls 7 [(0, .ref (L 44)), (1, .int (nI k)), (2, .int t), (3, .int (nI n)), (4, .int v4), (5, .int v5)] → W p l e ({ frames := 8, cells := 0, slots := 0, locals := 177 } : Room) s m ([.ref (L 44), .int (nI k), .int t, .int (nI n)] : List Value).toArray below meth c H locs 0 0 (MQ below (jQ D L x A (some (.int (faI (x.1 0) k t n)))) ([.ref (L 44), .int (nI k), .int t, .int (nI n)] : List Value).toArray s 0 0 A) (F0 m 6 ls []) := by
    intro fuel
    induction fuel with
    | zero => intro a g i hi hg hOg hf; exact absurd hf (Nat.not_lt_zero _)
    | succ fuel ih6 =>
      intro a g i hi hg hOg hf6 v4 v5 e4 e5  xc6 exc6 H locs hI hS ls hl
      subst e4 e5
      have hA2 : allI (xc6.1 0) = nI NN := by rw [exc6, xs_at, allI, g_row hg]; exact hA
      have hO_xc6 : wOk (xc6.1 0) := by rw [exc6, xs_at]; exact hOg
      refine lv_iload hx hb dX0_fewestAway_6 (lv_at hl 5 rfl) ?_
      refine lv_aload_n hx hb dX0_fewestAway_8 rfl (lv_at hl 0 rfl) ?_
      refine r_get (C := RX0) (T := TX0) (N := 11) hx hb hts in_X0 hown hK hI (cf_main) rfl 3 (by decide) (hts _ q401) (fun _ h => h) rfl dX0_fewestAway_9 ?_
      refine c_r (k_V (As := []) (rest := [.int (nI i)]) F (k_X4_all xc6 0 (by decide) (hO_xc6)) (cwV 0 hts (lw_V q747 q748 q749 q98 q750) rfl rfl rfl (by decide +kernel) ⟨Nat.le_of_ble_eq_true rfl, Nat.le_of_ble_eq_true rfl⟩) hI hK (hw.recv hI hK (cf_W (w := 0) (by decide)) rfl) rfl hl.1 rfl (Nat.le_of_ble_eq_true rfl) dX0_fewestAway_12 ⟨Nat.le_of_ble_eq_true rfl, Nat.le_of_ble_eq_true rfl⟩) ?_
      refine lv_icmp_gt (tgt := 92) hx hb dX0_fewestAway_15 (by decide) (fun c_15 => ?_) (fun c_15 => ?_)
      · skip
        have c_15 : NN < i := (nlt (a := NN) (b := i) (hA2) (rfl) (by omega) (by omega)).mp c_15
        refine lv_aload_n hx hb dX0_fewestAway_92 rfl (lv_at hl 0 rfl) ?_
        refine r_get (C := RX0) (T := TX0) (N := 11) hx hb hts in_X0 hown hK hI (cf_main) rfl 3 (by decide) (hts _ q401) (fun _ h => h) rfl dX0_fewestAway_93 ?_
        refine lv_iconst (v := 0) hx hb dX0_fewestAway_96 (by decide) ?_
        obtain ⟨x1, ex1⟩ : ∃ z, z = xs xc6 0 (u2 (xc6.1 0) 1 1 0) := ⟨_, rfl⟩
        refine r_putN (C := RX4) (T := TX4) (N := 7) (cf' := cfC D L x1) hx hb hts in_X4 tyX4 tyX4_ok nmX4 hown hK hI hS (cf_W (w := 0) (by decide)) rfl 3 (by decide) (nf_8 hK) (fun _ h => h) rfl (ty := .int) (by decide +kernel) rfl rfl (Nat.le_of_ble_eq_true rfl) (by rw [ex1]; exact cs_sc (w := 0) (by decide) (by decide) rfl) dX0_fewestAway_97 (fun H1 locs1 hI hS => ?_)
        refine lv_iload hx hb dX0_fewestAway_100 (lv_at hl 4 rfl) ?_
        exact W.iret hx hb hr (fun t ht _ => ⟨rI (by rw [faI, hNN, show i = NN + 1 by omega]), ⟨x1, (by rw [ex1, exc6]; simp only [xs_at, xs_xs, hg]; rw [show (0 : Int32) = x.1 0 1 1 from hgo.symm, u2_self]; exact jk_ag _ _), by rw [ht]; exact hI⟩, hS.F ht⟩) hS.2.2 dX0_fewestAway_102
      · skip
        have c_15 : ¬ NN < i := fun z => c_15 ((nlt (a := NN) (b := i) (hA2) (rfl) (by omega) (by omega)).mpr z)
        refine lv_iload hx hb dX0_fewestAway_18 (lv_at hl 5 rfl) ?_
        refine lv_iload_n hx hb dX0_fewestAway_20 rfl (lv_at hl 1 rfl) ?_
        refine c_r (k_S (As := [.int (nI i), .int (nI k)]) (rest := []) F (k_X0_has (nI i) (nI k)) (va_cwS 2 hts (lw_S q481 q475 q91 q476) rfl rfl rfl (by decide +kernel) ⟨Nat.le_of_ble_eq_true rfl, Nat.le_of_ble_eq_true rfl⟩) rfl hl.1 rfl (Nat.le_of_ble_eq_true rfl) dX0_fewestAway_21 ⟨Nat.le_of_ble_eq_true rfl, Nat.le_of_ble_eq_true rfl⟩) ?_
        refine lv_if_ne (tgt := 50) hx hb dX0_fewestAway_24 (by decide) (fun c_24 => ?_) (fun c_24 => ?_)
        · skip
          refine lv_iconst (v := 0) hx hb dX0_fewestAway_50 (by decide) ?_
          refine lv_istore (lv' := [(6, .int 0), (0, .ref (L 44)), (1, .int (nI k)), (2, .int t), (3, .int (nI n)), (4, .int (itr (faS (x.1 0) k t n) (-1) i)), (5, .int (nI i))]) hx hb dX0_fewestAway_51 hl (by decide) rfl (fun ls hl => ?_)
          refine lv_aload_n hx hb dX0_fewestAway_53 rfl (lv_at hl 1 rfl) ?_
          refine r_get (C := RX0) (T := TX0) (N := 11) hx hb hts in_X0 hown hK hI (cf_main) rfl 3 (by decide) (hts _ q401) (fun _ h => h) rfl dX0_fewestAway_54 ?_
          refine lv_iload hx hb dX0_fewestAway_57 (lv_at hl 6 rfl) ?_
          obtain ⟨x2, ex2⟩ : ∃ z, z = xs xc6 0 (u2 (xc6.1 0) 1 1 (nI i)) := ⟨_, rfl⟩
          refine r_putN (C := RX4) (T := TX4) (N := 7) (cf' := cfC D L x2) hx hb hts in_X4 tyX4 tyX4_ok nmX4 hown hK hI hS (cf_W (w := 0) (by decide)) rfl 3 (by decide) (nf_8 hK) (fun _ h => h) rfl (ty := .int) (by decide +kernel) rfl rfl (Nat.le_of_ble_eq_true rfl) (by rw [ex2]; exact cs_sc (w := 0) (by decide) (by decide) rfl) dX0_fewestAway_59 (fun H1 locs1 hI hS => ?_)
          have hx1 : x2.1 0 = u2 (x.1 0) 1 1 (nI i) := by rw [ex2, xs_at, exc6, xs_at]; exact hg _
          have hO_x2 : wOk (x2.1 0) := by rw [hx1]; exact wOk_g hO _
          have hd_x2 : isN (x2.1 0 1 2) 10000 := by rw [hx1, u2_at, if_neg (by decide)]; exact hd
          refine lv_iload hx hb dX0_fewestAway_62 (lv_at hl 0 rfl) ?_
          refine lv_if_eq (tgt := 82) hx hb dX0_fewestAway_64 (by decide) (fun c_64 => ?_) (fun c_64 => ?_)
          · skip
            have c_64 : 0 = 0 := (neq (a := 0) (b := 0) (rfl) (rfl) (by omega) (by omega)).mp c_64
            refine lv_iload hx hb dX0_fewestAway_82 (lv_at hl 5 rfl) ?_
            refine lv_istore (lv' := [(4, .int (itr (faS (x.1 0) k t n) (-1) i)), (6, .int 0), (0, .ref (L 44)), (1, .int (nI k)), (2, .int t), (3, .int (nI n)), (5, .int (nI i))]) hx hb dX0_fewestAway_84 hl (by decide) rfl (fun ls hl => ?_)
            refine lv_iinc (v := (nI (i + 1))) (lv' := [(5, .int (nI (i + 1))), (4, .int (itr (faS (x.1 0) k t n) (-1) i)), (6, .int 0), (0, .ref (L 44)), (1, .int (nI k)), (2, .int t), (3, .int (nI n))]) hx hb dX0_fewestAway_86 hl (k := 6) rfl (nI_1 _) (by decide) rfl (fun ls hl => ?_)
            refine lv_goto (tgt := 6) hx hb dX0_fewestAway_89 (by decide) ?_
            exact ih6 (x2.1 2) (u2 g 1 1 (nI i)) (i + 1) (by omega) (fun v => by rw [u2_u2, hg]) (by rw [hg]; exact wOk_g hO _) (by omega) (itr (faS (x.1 0) k t n) (-1) i) (nI (i + 1)) (by simp only [itr_s, faS, ← hx1, if_neg c_15, if_neg c_24, if_pos c_64]) (rfl) x2 (by first | (rw [ex2, exc6]; simp only [xs_at, xs_xs, xs_c0]; done) | (rw [ex2, exc6]; simp only [xs_at, xs_xs, xs_c0]; rw [xs_comm, xs_xs]; done)) _ _ hI hS ls (lv_sub hl [3, 4, 5, 6, 1, 0] rfl)
          · skip
            have c_64 : ¬ 0 = 0 := fun z => c_64 ((neq (a := 0) (b := 0) (rfl) (rfl) (by omega) (by omega)).mpr z)
            exact absurd (by decide) c_64
        · skip
          refine lv_iload hx hb dX0_fewestAway_27 (lv_at hl 4 rfl) ?_
          refine lv_iconst (v := (-1)) hx hb dX0_fewestAway_29 (by decide) ?_
          refine lv_icmp_eq (tgt := 46) hx hb dX0_fewestAway_30 (by decide) (fun c_30 => ?_) (fun c_30 => ?_)
          · skip
            refine lv_iconst (v := 1) hx hb dX0_fewestAway_46 (by decide) ?_
            refine lv_goto (tgt := 51) hx hb dX0_fewestAway_47 (by decide) ?_
            refine lv_istore (lv' := [(6, .int 1), (0, .ref (L 44)), (1, .int (nI k)), (2, .int t), (3, .int (nI n)), (4, .int (itr (faS (x.1 0) k t n) (-1) i)), (5, .int (nI i))]) hx hb dX0_fewestAway_51 hl (by decide) rfl (fun ls hl => ?_)
            refine lv_aload_n hx hb dX0_fewestAway_53 rfl (lv_at hl 1 rfl) ?_
            refine r_get (C := RX0) (T := TX0) (N := 11) hx hb hts in_X0 hown hK hI (cf_main) rfl 3 (by decide) (hts _ q401) (fun _ h => h) rfl dX0_fewestAway_54 ?_
            refine lv_iload hx hb dX0_fewestAway_57 (lv_at hl 6 rfl) ?_
            obtain ⟨x3, ex3⟩ : ∃ z, z = xs xc6 0 (u2 (xc6.1 0) 1 1 (nI i)) := ⟨_, rfl⟩
            refine r_putN (C := RX4) (T := TX4) (N := 7) (cf' := cfC D L x3) hx hb hts in_X4 tyX4 tyX4_ok nmX4 hown hK hI hS (cf_W (w := 0) (by decide)) rfl 3 (by decide) (nf_8 hK) (fun _ h => h) rfl (ty := .int) (by decide +kernel) rfl rfl (Nat.le_of_ble_eq_true rfl) (by rw [ex3]; exact cs_sc (w := 0) (by decide) (by decide) rfl) dX0_fewestAway_59 (fun H1 locs1 hI hS => ?_)
            have hx1 : x3.1 0 = u2 (x.1 0) 1 1 (nI i) := by rw [ex3, xs_at, exc6, xs_at]; exact hg _
            have hO_x3 : wOk (x3.1 0) := by rw [hx1]; exact wOk_g hO _
            have hd_x3 : isN (x3.1 0 1 2) 10000 := by rw [hx1, u2_at, if_neg (by decide)]; exact hd
            refine lv_iload hx hb dX0_fewestAway_62 (lv_at hl 0 rfl) ?_
            refine lv_if_eq (tgt := 82) hx hb dX0_fewestAway_64 (by decide) (fun c_64 => ?_) (fun c_64 => ?_)
            · skip
              have c_64 : 1 = 0 := (neq (a := 1) (b := 0) (rfl) (rfl) (by omega) (by omega)).mp c_64
              exact absurd c_64 (by decide)
            · skip
              have c_64 : ¬ 1 = 0 := fun z => c_64 ((neq (a := 1) (b := 0) (rfl) (rfl) (by omega) (by omega)).mpr z)
              refine lv_aload_n hx hb dX0_fewestAway_67 rfl (lv_at hl 1 rfl) ?_
              refine lv_iload_n hx hb dX0_fewestAway_68 rfl (lv_at hl 2 rfl) ?_
              refine lv_iload_n hx hb dX0_fewestAway_69 rfl (lv_at hl 3 rfl) ?_
              refine lv_iload_n hx hb dX0_fewestAway_70 rfl (lv_at hl 4 rfl) ?_
              refine c_m (k_VW (n := 3) (As := [.int (nI k), .int t, .int (nI n)]) (rest := []) F (k_X0_doesKnowBehind x3 (hO_x3) (hd_x3) k t n (by omega) (by omega)) ⟨rfl, rfl⟩ ⟨Nat.le_of_ble_eq_true rfl, Nat.le_of_ble_eq_true rfl⟩ q866 q868 qs22 q91 q869 (by decide +kernel) hI hK (hw.recv hI hK (cf_main) rfl) rfl hl.1 rfl (Nat.le_of_ble_eq_true rfl) dX0_fewestAway_71 ⟨Nat.le_of_ble_eq_true rfl, Nat.le_of_ble_eq_true rfl⟩) hS (fun H1 locs1 hI hS => ?_)
              obtain ⟨x4, ex4⟩ : ∃ z, z = xs x3 2 (x3.1 0) := ⟨_, rfl⟩
              rw [← ex4] at hI
              refine lv_if_eq (tgt := 82) hx hb dX0_fewestAway_74 (by decide) (fun c_74 => ?_) (fun c_74 => ?_)
              · skip
                refine lv_iload hx hb dX0_fewestAway_82 (lv_at hl 5 rfl) ?_
                refine lv_istore (lv' := [(4, .int (itr (faS (x.1 0) k t n) (-1) i)), (6, .int 1), (0, .ref (L 44)), (1, .int (nI k)), (2, .int t), (3, .int (nI n)), (5, .int (nI i))]) hx hb dX0_fewestAway_84 hl (by decide) rfl (fun ls hl => ?_)
                refine lv_iinc (v := (nI (i + 1))) (lv' := [(5, .int (nI (i + 1))), (4, .int (itr (faS (x.1 0) k t n) (-1) i)), (6, .int 1), (0, .ref (L 44)), (1, .int (nI k)), (2, .int t), (3, .int (nI n))]) hx hb dX0_fewestAway_86 hl (k := 6) rfl (nI_1 _) (by decide) rfl (fun ls hl => ?_)
                refine lv_goto (tgt := 6) hx hb dX0_fewestAway_89 (by decide) ?_
                exact ih6 (x4.1 2) (u2 g 1 1 (nI i)) (i + 1) (by omega) (fun v => by rw [u2_u2, hg]) (by rw [hg]; exact wOk_g hO _) (by omega) (itr (faS (x.1 0) k t n) (-1) i) (nI (i + 1)) (by simp only [itr_s, faS, ← hx1, if_neg c_15, if_pos c_24, if_pos c_30, if_neg c_64, if_pos c_74]) (rfl) x4 (by first | (rw [ex4, ex3, exc6]; simp only [xs_at, xs_xs, xs_c0]; done) | (rw [ex4, ex3, exc6]; simp only [xs_at, xs_xs, xs_c0]; rw [xs_comm, xs_xs]; done)) _ _ hI hS ls (lv_sub hl [3, 4, 5, 6, 1, 0] rfl)
              · skip
                refine lv_iload hx hb dX0_fewestAway_77 (lv_at hl 6 rfl) ?_
                refine lv_goto (tgt := 84) hx hb dX0_fewestAway_79 (by decide) ?_
                refine lv_istore (lv' := [(4, .int (nI i)), (6, .int 1), (0, .ref (L 44)), (1, .int (nI k)), (2, .int t), (3, .int (nI n)), (5, .int (nI i))]) hx hb dX0_fewestAway_84 hl (by decide) rfl (fun ls hl => ?_)
                refine lv_iinc (v := (nI (i + 1))) (lv' := [(5, .int (nI (i + 1))), (4, .int (nI i)), (6, .int 1), (0, .ref (L 44)), (1, .int (nI k)), (2, .int t), (3, .int (nI n))]) hx hb dX0_fewestAway_86 hl (k := 6) rfl (nI_1 _) (by decide) rfl (fun ls hl => ?_)
                refine lv_goto (tgt := 6) hx hb dX0_fewestAway_89 (by decide) ?_
                exact ih6 (x4.1 2) (u2 g 1 1 (nI i)) (i + 1) (by omega) (fun v => by rw [u2_u2, hg]) (by rw [hg]; exact wOk_g hO _) (by omega) (nI i) (nI (i + 1)) (by simp only [itr_s, faS, ← hx1, if_neg c_15, if_pos c_24, if_pos c_30, if_neg c_64, if_neg c_74]) (rfl) x4 (by first | (rw [ex4, ex3, exc6]; simp only [xs_at, xs_xs, xs_c0]; done) | (rw [ex4, ex3, exc6]; simp only [xs_at, xs_xs, xs_c0]; rw [xs_comm, xs_xs]; done)) _ _ hI hS ls (lv_sub hl [3, 4, 5, 6, 1, 0] rfl)
          · skip
            refine lv_iload hx hb dX0_fewestAway_33 (lv_at hl 5 rfl) ?_
            refine c_r (k_S (As := [.int (nI i)]) (rest := []) F (k_X0_ones (nI i)) (va_cwS 1 hts (lw_S q809 q734 q91 q735) rfl rfl rfl (by decide +kernel) ⟨Nat.le_of_ble_eq_true rfl, Nat.le_of_ble_eq_true rfl⟩) rfl hl.1 rfl (Nat.le_of_ble_eq_true rfl) dX0_fewestAway_35 ⟨Nat.le_of_ble_eq_true rfl, Nat.le_of_ble_eq_true rfl⟩) ?_
            refine lv_iload hx hb dX0_fewestAway_38 (lv_at hl 4 rfl) ?_
            refine c_r (k_S (As := [.int (itr (faS (x.1 0) k t n) (-1) i)]) (rest := [.int (bcI (nI i))]) F (k_X0_ones (itr (faS (x.1 0) k t n) (-1) i)) (va_cwS 1 hts (lw_S q809 q734 q91 q735) rfl rfl rfl (by decide +kernel) ⟨Nat.le_of_ble_eq_true rfl, Nat.le_of_ble_eq_true rfl⟩) rfl hl.1 rfl (Nat.le_of_ble_eq_true rfl) dX0_fewestAway_40 ⟨Nat.le_of_ble_eq_true rfl, Nat.le_of_ble_eq_true rfl⟩) ?_
            refine lv_icmp_ge (tgt := 50) hx hb dX0_fewestAway_43 (by decide) (fun c_43 => ?_) (fun c_43 => ?_)
            · skip
              have c_43 := Int32.not_lt.mpr c_43
              refine lv_iconst (v := 0) hx hb dX0_fewestAway_50 (by decide) ?_
              refine lv_istore (lv' := [(6, .int 0), (0, .ref (L 44)), (1, .int (nI k)), (2, .int t), (3, .int (nI n)), (4, .int (itr (faS (x.1 0) k t n) (-1) i)), (5, .int (nI i))]) hx hb dX0_fewestAway_51 hl (by decide) rfl (fun ls hl => ?_)
              refine lv_aload_n hx hb dX0_fewestAway_53 rfl (lv_at hl 1 rfl) ?_
              refine r_get (C := RX0) (T := TX0) (N := 11) hx hb hts in_X0 hown hK hI (cf_main) rfl 3 (by decide) (hts _ q401) (fun _ h => h) rfl dX0_fewestAway_54 ?_
              refine lv_iload hx hb dX0_fewestAway_57 (lv_at hl 6 rfl) ?_
              obtain ⟨x5, ex5⟩ : ∃ z, z = xs xc6 0 (u2 (xc6.1 0) 1 1 (nI i)) := ⟨_, rfl⟩
              refine r_putN (C := RX4) (T := TX4) (N := 7) (cf' := cfC D L x5) hx hb hts in_X4 tyX4 tyX4_ok nmX4 hown hK hI hS (cf_W (w := 0) (by decide)) rfl 3 (by decide) (nf_8 hK) (fun _ h => h) rfl (ty := .int) (by decide +kernel) rfl rfl (Nat.le_of_ble_eq_true rfl) (by rw [ex5]; exact cs_sc (w := 0) (by decide) (by decide) rfl) dX0_fewestAway_59 (fun H1 locs1 hI hS => ?_)
              have hx1 : x5.1 0 = u2 (x.1 0) 1 1 (nI i) := by rw [ex5, xs_at, exc6, xs_at]; exact hg _
              have hO_x5 : wOk (x5.1 0) := by rw [hx1]; exact wOk_g hO _
              have hd_x5 : isN (x5.1 0 1 2) 10000 := by rw [hx1, u2_at, if_neg (by decide)]; exact hd
              refine lv_iload hx hb dX0_fewestAway_62 (lv_at hl 0 rfl) ?_
              refine lv_if_eq (tgt := 82) hx hb dX0_fewestAway_64 (by decide) (fun c_64 => ?_) (fun c_64 => ?_)
              · skip
                have c_64 : 0 = 0 := (neq (a := 0) (b := 0) (rfl) (rfl) (by omega) (by omega)).mp c_64
                refine lv_iload hx hb dX0_fewestAway_82 (lv_at hl 5 rfl) ?_
                refine lv_istore (lv' := [(4, .int (itr (faS (x.1 0) k t n) (-1) i)), (6, .int 0), (0, .ref (L 44)), (1, .int (nI k)), (2, .int t), (3, .int (nI n)), (5, .int (nI i))]) hx hb dX0_fewestAway_84 hl (by decide) rfl (fun ls hl => ?_)
                refine lv_iinc (v := (nI (i + 1))) (lv' := [(5, .int (nI (i + 1))), (4, .int (itr (faS (x.1 0) k t n) (-1) i)), (6, .int 0), (0, .ref (L 44)), (1, .int (nI k)), (2, .int t), (3, .int (nI n))]) hx hb dX0_fewestAway_86 hl (k := 6) rfl (nI_1 _) (by decide) rfl (fun ls hl => ?_)
                refine lv_goto (tgt := 6) hx hb dX0_fewestAway_89 (by decide) ?_
                exact ih6 (x5.1 2) (u2 g 1 1 (nI i)) (i + 1) (by omega) (fun v => by rw [u2_u2, hg]) (by rw [hg]; exact wOk_g hO _) (by omega) (itr (faS (x.1 0) k t n) (-1) i) (nI (i + 1)) (by simp only [itr_s, faS, ← hx1, if_neg c_15, if_pos c_24, if_neg c_30, if_neg c_43, if_pos c_64]) (rfl) x5 (by first | (rw [ex5, exc6]; simp only [xs_at, xs_xs, xs_c0]; done) | (rw [ex5, exc6]; simp only [xs_at, xs_xs, xs_c0]; rw [xs_comm, xs_xs]; done)) _ _ hI hS ls (lv_sub hl [3, 4, 5, 6, 1, 0] rfl)
              · skip
                have c_64 : ¬ 0 = 0 := fun z => c_64 ((neq (a := 0) (b := 0) (rfl) (rfl) (by omega) (by omega)).mpr z)
                exact absurd (by decide) c_64
            · skip
              have c_43 := Int32.not_le.mp c_43
              refine lv_iconst (v := 1) hx hb dX0_fewestAway_46 (by decide) ?_
              refine lv_goto (tgt := 51) hx hb dX0_fewestAway_47 (by decide) ?_
              refine lv_istore (lv' := [(6, .int 1), (0, .ref (L 44)), (1, .int (nI k)), (2, .int t), (3, .int (nI n)), (4, .int (itr (faS (x.1 0) k t n) (-1) i)), (5, .int (nI i))]) hx hb dX0_fewestAway_51 hl (by decide) rfl (fun ls hl => ?_)
              refine lv_aload_n hx hb dX0_fewestAway_53 rfl (lv_at hl 1 rfl) ?_
              refine r_get (C := RX0) (T := TX0) (N := 11) hx hb hts in_X0 hown hK hI (cf_main) rfl 3 (by decide) (hts _ q401) (fun _ h => h) rfl dX0_fewestAway_54 ?_
              refine lv_iload hx hb dX0_fewestAway_57 (lv_at hl 6 rfl) ?_
              obtain ⟨x6, ex6⟩ : ∃ z, z = xs xc6 0 (u2 (xc6.1 0) 1 1 (nI i)) := ⟨_, rfl⟩
              refine r_putN (C := RX4) (T := TX4) (N := 7) (cf' := cfC D L x6) hx hb hts in_X4 tyX4 tyX4_ok nmX4 hown hK hI hS (cf_W (w := 0) (by decide)) rfl 3 (by decide) (nf_8 hK) (fun _ h => h) rfl (ty := .int) (by decide +kernel) rfl rfl (Nat.le_of_ble_eq_true rfl) (by rw [ex6]; exact cs_sc (w := 0) (by decide) (by decide) rfl) dX0_fewestAway_59 (fun H1 locs1 hI hS => ?_)
              have hx1 : x6.1 0 = u2 (x.1 0) 1 1 (nI i) := by rw [ex6, xs_at, exc6, xs_at]; exact hg _
              have hO_x6 : wOk (x6.1 0) := by rw [hx1]; exact wOk_g hO _
              have hd_x6 : isN (x6.1 0 1 2) 10000 := by rw [hx1, u2_at, if_neg (by decide)]; exact hd
              refine lv_iload hx hb dX0_fewestAway_62 (lv_at hl 0 rfl) ?_
              refine lv_if_eq (tgt := 82) hx hb dX0_fewestAway_64 (by decide) (fun c_64 => ?_) (fun c_64 => ?_)
              · skip
                have c_64 : 1 = 0 := (neq (a := 1) (b := 0) (rfl) (rfl) (by omega) (by omega)).mp c_64
                exact absurd c_64 (by decide)
              · skip
                have c_64 : ¬ 1 = 0 := fun z => c_64 ((neq (a := 1) (b := 0) (rfl) (rfl) (by omega) (by omega)).mpr z)
                refine lv_aload_n hx hb dX0_fewestAway_67 rfl (lv_at hl 1 rfl) ?_
                refine lv_iload_n hx hb dX0_fewestAway_68 rfl (lv_at hl 2 rfl) ?_
                refine lv_iload_n hx hb dX0_fewestAway_69 rfl (lv_at hl 3 rfl) ?_
                refine lv_iload_n hx hb dX0_fewestAway_70 rfl (lv_at hl 4 rfl) ?_
                refine c_m (k_VW (n := 3) (As := [.int (nI k), .int t, .int (nI n)]) (rest := []) F (k_X0_doesKnowBehind x6 (hO_x6) (hd_x6) k t n (by omega) (by omega)) ⟨rfl, rfl⟩ ⟨Nat.le_of_ble_eq_true rfl, Nat.le_of_ble_eq_true rfl⟩ q866 q868 qs22 q91 q869 (by decide +kernel) hI hK (hw.recv hI hK (cf_main) rfl) rfl hl.1 rfl (Nat.le_of_ble_eq_true rfl) dX0_fewestAway_71 ⟨Nat.le_of_ble_eq_true rfl, Nat.le_of_ble_eq_true rfl⟩) hS (fun H1 locs1 hI hS => ?_)
                obtain ⟨x7, ex7⟩ : ∃ z, z = xs x6 2 (x6.1 0) := ⟨_, rfl⟩
                rw [← ex7] at hI
                refine lv_if_eq (tgt := 82) hx hb dX0_fewestAway_74 (by decide) (fun c_74 => ?_) (fun c_74 => ?_)
                · skip
                  refine lv_iload hx hb dX0_fewestAway_82 (lv_at hl 5 rfl) ?_
                  refine lv_istore (lv' := [(4, .int (itr (faS (x.1 0) k t n) (-1) i)), (6, .int 1), (0, .ref (L 44)), (1, .int (nI k)), (2, .int t), (3, .int (nI n)), (5, .int (nI i))]) hx hb dX0_fewestAway_84 hl (by decide) rfl (fun ls hl => ?_)
                  refine lv_iinc (v := (nI (i + 1))) (lv' := [(5, .int (nI (i + 1))), (4, .int (itr (faS (x.1 0) k t n) (-1) i)), (6, .int 1), (0, .ref (L 44)), (1, .int (nI k)), (2, .int t), (3, .int (nI n))]) hx hb dX0_fewestAway_86 hl (k := 6) rfl (nI_1 _) (by decide) rfl (fun ls hl => ?_)
                  refine lv_goto (tgt := 6) hx hb dX0_fewestAway_89 (by decide) ?_
                  exact ih6 (x7.1 2) (u2 g 1 1 (nI i)) (i + 1) (by omega) (fun v => by rw [u2_u2, hg]) (by rw [hg]; exact wOk_g hO _) (by omega) (itr (faS (x.1 0) k t n) (-1) i) (nI (i + 1)) (by simp only [itr_s, faS, ← hx1, if_neg c_15, if_pos c_24, if_neg c_30, if_pos c_43, if_neg c_64, if_pos c_74]) (rfl) x7 (by first | (rw [ex7, ex6, exc6]; simp only [xs_at, xs_xs, xs_c0]; done) | (rw [ex7, ex6, exc6]; simp only [xs_at, xs_xs, xs_c0]; rw [xs_comm, xs_xs]; done)) _ _ hI hS ls (lv_sub hl [3, 4, 5, 6, 1, 0] rfl)
                · skip
                  refine lv_iload hx hb dX0_fewestAway_77 (lv_at hl 6 rfl) ?_
                  refine lv_goto (tgt := 84) hx hb dX0_fewestAway_79 (by decide) ?_
                  refine lv_istore (lv' := [(4, .int (nI i)), (6, .int 1), (0, .ref (L 44)), (1, .int (nI k)), (2, .int t), (3, .int (nI n)), (5, .int (nI i))]) hx hb dX0_fewestAway_84 hl (by decide) rfl (fun ls hl => ?_)
                  refine lv_iinc (v := (nI (i + 1))) (lv' := [(5, .int (nI (i + 1))), (4, .int (nI i)), (6, .int 1), (0, .ref (L 44)), (1, .int (nI k)), (2, .int t), (3, .int (nI n))]) hx hb dX0_fewestAway_86 hl (k := 6) rfl (nI_1 _) (by decide) rfl (fun ls hl => ?_)
                  refine lv_goto (tgt := 6) hx hb dX0_fewestAway_89 (by decide) ?_
                  exact ih6 (x7.1 2) (u2 g 1 1 (nI i)) (i + 1) (by omega) (fun v => by rw [u2_u2, hg]) (by rw [hg]; exact wOk_g hO _) (by omega) (nI i) (nI (i + 1)) (by simp only [itr_s, faS, ← hx1, if_neg c_15, if_pos c_24, if_neg c_30, if_pos c_43, if_neg c_64, if_neg c_74]) (rfl) x7 (by first | (rw [ex7, ex6, exc6]; simp only [xs_at, xs_xs, xs_c0]; done) | (rw [ex7, ex6, exc6]; simp only [xs_at, xs_xs, xs_c0]; rw [xs_comm, xs_xs]; done)) _ _ hI hS ls (lv_sub hl [3, 4, 5, 6, 1, 0] rfl)
  exact lp6 (_ + 1) (x.1 2) (x.1 0) (0) (Nat.zero_le _) (fun _ => rfl) (hO) (Nat.lt_succ_self _) (-1) 0 (rfl) (rfl) x (by rw [xs_self, xs_self]) _ _ hI hS ls (lv_sub hl [2, 3, 4, 5, 1, 0] rfl)
theorem k_X0_away {l : Launch} {D : va_G} {L : Nat → Nat} {A : Nat → Prop} (x : cst) (hO : wOk (x.1 0)) (hd : isN (x.1 0 1 2) 10000) (hgo : x.1 0 1 1 = 0) (g t n : Int32) : Met l yX0_away (ws_ yX0_away cX0_away 5 (some .int)) ({ frames := 9, cells := 0, slots := 0, locals := 203 } : Room) (va_Pc [.ref (L 44), .int g, .int t, .int n] (pI D (cfC D L x) A)) (jQ D L (aC x (a_away (x.1 0) g t n)) A (some (.int (aR (a_away (x.1 0) g t n))))) 0 0 A := by
  refine met_I (by decide) rfl (Nat.le_of_ble_eq_true rfl) ?_
  intro p e s m below meth c ls hx hb hr hml hown hts hlocks hl hI hK
  have F : CallFix p m c cX0_away 5 s _ lw_all RX0 := ⟨hx, hb, hml, hown, hts⟩
  have hl : lv_has ls 5 [(0, .ref (L 44)), (1, .int g), (2, .int t), (3, .int n)] := hl
  have hS : va_S A s.heap s.heap [] := va_S.rf
  obtain ⟨nn, hn, h8⟩ : ∃ n, x.1 0 1 0 = nI n ∧ n ≤ 8 := ⟨_, hO.n⟩
  have hN : wN (x.1 0) = nn := by unfold wN; rw [hn, nI_clamp (by omega)]
  refine lv_aload_n hx hb dX0_away_0 rfl (lv_at hl 0 rfl) ?_
  refine lv_iload_n hx hb dX0_away_1 rfl (lv_at hl 1 rfl) ?_
  refine c_r (k_V (As := [.int g]) (rest := []) F (k_X0_isGlove x g) (cwV 1 hts (lw_V q543 q545 qs5 q91 q546) rfl rfl rfl (by decide +kernel) ⟨Nat.le_of_ble_eq_true rfl, Nat.le_of_ble_eq_true rfl⟩) hI hK (hw.recv hI hK (cf_main) rfl) rfl hl.1 rfl (Nat.le_of_ble_eq_true rfl) dX0_away_2 ⟨Nat.le_of_ble_eq_true rfl, Nat.le_of_ble_eq_true rfl⟩) ?_
  refine lv_if_eq (tgt := 29) hx hb dX0_away_5 (by decide) (fun c_5 => ?_) (fun c_5 => ?_)
  · skip
    refine lv_iconst (v := 0) hx hb dX0_away_29 (by decide) ?_
    refine lv_istore (lv' := [(4, .int 0), (0, .ref (L 44)), (1, .int g), (2, .int t), (3, .int n)]) hx hb dX0_away_30 hl (by decide) rfl (fun ls hl => ?_)
    refine lv_iload hx hb dX0_away_32 (lv_at hl 0 rfl) ?_
    refine lv_if_eq (tgt := 51) hx hb dX0_away_34 (by decide) (fun c_34 => ?_) (fun c_34 => ?_)
    · skip
      have c_34 : 0 = 0 := (neq (a := 0) (b := 0) (rfl) (rfl) (by omega) (by omega)).mp c_34
      refine lv_aload_n hx hb dX0_away_51 rfl (lv_at hl 1 rfl) ?_
      refine lv_iconst (v := 0) hx hb dX0_away_52 (by decide) ?_
      refine c_m (k_V (As := [.int 0]) (rest := []) F (k_X0_finding x 0 (by decide)) (cwV 1 hts (lw_V q457 q459 qs2 q91 q460) rfl rfl rfl (by decide +kernel) ⟨Nat.le_of_ble_eq_true rfl, Nat.le_of_ble_eq_true rfl⟩) hI hK (hw.recv hI hK (cf_main) rfl) rfl hl.1 rfl (Nat.le_of_ble_eq_true rfl) dX0_away_53 ⟨Nat.le_of_ble_eq_true rfl, Nat.le_of_ble_eq_true rfl⟩) hS (fun H1 locs1 hI hS => ?_)
      obtain ⟨x1, ex1⟩ : ∃ z, z = (fnd x 0) := ⟨_, rfl⟩
      rw [← ex1] at hI
      exact W.iret hx hb hr (fun t ht _ => ⟨rI (by first | (simp only [a_away, aR, if_pos c_5, if_pos c_34]; done) | (simp only [a_away, aR_orN, if_pos c_5, if_pos c_34]; done) | (simp [a_away, aR, c_5, c_34]; done)), ⟨x1, (by first | (simp only [a_away, if_pos c_5, if_pos c_34]; rw [aC_orN, ex1]; exact jk_orC (by assumption) _) | (simp only [a_away, aC, if_pos c_5, if_pos c_34, xs_self]; rw [ex1]; exact jk_a _ _) | (simp only [a_away, if_pos c_5, if_pos c_34]; rw [aC_orN, ex1]; exact jk_orC (by first | exact jk_rfl | assumption) _) | (simp only [a_away, aC, if_pos c_5, if_pos c_34, xs_self]; assumption) | (simp only [a_away, if_pos c_5, if_pos c_34]; rw [aC_orN]; refine jk_eq ?_; rw [ex1]; done) | (simp only [a_away, aC, if_pos c_5, if_pos c_34, xs_self]; refine jk_eq ?_; rw [ex1]; done)), by rw [ht]; exact hI⟩, hS.F ht⟩) hS.2.2 dX0_away_56
    · skip
      have c_34 : ¬ 0 = 0 := fun z => c_34 ((neq (a := 0) (b := 0) (rfl) (rfl) (by omega) (by omega)).mpr z)
      exact absurd (by decide) c_34
  · skip
    refine lv_iload_n hx hb dX0_away_8 rfl (lv_at hl 2 rfl) ?_
    refine c_r (k_S (As := [.int t]) (rest := []) F (k_X0_isTopic t) (va_cwS 1 hts (lw_S q454 q455 q91 q456) rfl rfl rfl (by decide +kernel) ⟨Nat.le_of_ble_eq_true rfl, Nat.le_of_ble_eq_true rfl⟩) rfl hl.1 rfl (Nat.le_of_ble_eq_true rfl) dX0_away_9 ⟨Nat.le_of_ble_eq_true rfl, Nat.le_of_ble_eq_true rfl⟩) ?_
    refine lv_if_eq (tgt := 29) hx hb dX0_away_12 (by decide) (fun c_12 => ?_) (fun c_12 => ?_)
    · skip
      refine lv_iconst (v := 0) hx hb dX0_away_29 (by decide) ?_
      refine lv_istore (lv' := [(4, .int 0), (0, .ref (L 44)), (1, .int g), (2, .int t), (3, .int n)]) hx hb dX0_away_30 hl (by decide) rfl (fun ls hl => ?_)
      refine lv_iload hx hb dX0_away_32 (lv_at hl 0 rfl) ?_
      refine lv_if_eq (tgt := 51) hx hb dX0_away_34 (by decide) (fun c_34 => ?_) (fun c_34 => ?_)
      · skip
        have c_34 : 0 = 0 := (neq (a := 0) (b := 0) (rfl) (rfl) (by omega) (by omega)).mp c_34
        refine lv_aload_n hx hb dX0_away_51 rfl (lv_at hl 1 rfl) ?_
        refine lv_iconst (v := 0) hx hb dX0_away_52 (by decide) ?_
        refine c_m (k_V (As := [.int 0]) (rest := []) F (k_X0_finding x 0 (by decide)) (cwV 1 hts (lw_V q457 q459 qs2 q91 q460) rfl rfl rfl (by decide +kernel) ⟨Nat.le_of_ble_eq_true rfl, Nat.le_of_ble_eq_true rfl⟩) hI hK (hw.recv hI hK (cf_main) rfl) rfl hl.1 rfl (Nat.le_of_ble_eq_true rfl) dX0_away_53 ⟨Nat.le_of_ble_eq_true rfl, Nat.le_of_ble_eq_true rfl⟩) hS (fun H1 locs1 hI hS => ?_)
        obtain ⟨x2, ex2⟩ : ∃ z, z = (fnd x 0) := ⟨_, rfl⟩
        rw [← ex2] at hI
        exact W.iret hx hb hr (fun t ht _ => ⟨rI (by first | (simp only [a_away, aR, if_neg c_5, if_pos c_12, if_pos c_34]; done) | (simp only [a_away, aR_orN, if_neg c_5, if_pos c_12, if_pos c_34]; done) | (simp [a_away, aR, c_5, c_12, c_34]; done)), ⟨x2, (by first | (simp only [a_away, if_neg c_5, if_pos c_12, if_pos c_34]; rw [aC_orN, ex2]; exact jk_orC (by assumption) _) | (simp only [a_away, aC, if_neg c_5, if_pos c_12, if_pos c_34, xs_self]; rw [ex2]; exact jk_a _ _) | (simp only [a_away, if_neg c_5, if_pos c_12, if_pos c_34]; rw [aC_orN, ex2]; exact jk_orC (by first | exact jk_rfl | assumption) _) | (simp only [a_away, aC, if_neg c_5, if_pos c_12, if_pos c_34, xs_self]; assumption) | (simp only [a_away, if_neg c_5, if_pos c_12, if_pos c_34]; rw [aC_orN]; refine jk_eq ?_; rw [ex2]; done) | (simp only [a_away, aC, if_neg c_5, if_pos c_12, if_pos c_34, xs_self]; refine jk_eq ?_; rw [ex2]; done)), by rw [ht]; exact hI⟩, hS.F ht⟩) hS.2.2 dX0_away_56
      · skip
        have c_34 : ¬ 0 = 0 := fun z => c_34 ((neq (a := 0) (b := 0) (rfl) (rfl) (by omega) (by omega)).mpr z)
        exact absurd (by decide) c_34
    · skip
      refine lv_iload_n hx hb dX0_away_15 rfl (lv_at hl 3 rfl) ?_
      refine lv_iconst (v := 0) hx hb dX0_away_16 (by decide) ?_
      refine lv_bipush (v := 20) hx hb dX0_away_17 (by decide) ?_
      refine c_r (k_S (As := [.int n, .int 0, .int 20]) (rest := []) F (k_X0_in n 0 20) (va_cwS 3 hts (lw_S q439 q440 q91 q441) rfl rfl rfl (by decide +kernel) ⟨Nat.le_of_ble_eq_true rfl, Nat.le_of_ble_eq_true rfl⟩) rfl hl.1 rfl (Nat.le_of_ble_eq_true rfl) dX0_away_19 ⟨Nat.le_of_ble_eq_true rfl, Nat.le_of_ble_eq_true rfl⟩) ?_
      refine lv_if_eq (tgt := 29) hx hb dX0_away_22 (by decide) (fun c_22 => ?_) (fun c_22 => ?_)
      · skip
        refine lv_iconst (v := 0) hx hb dX0_away_29 (by decide) ?_
        refine lv_istore (lv' := [(4, .int 0), (0, .ref (L 44)), (1, .int g), (2, .int t), (3, .int n)]) hx hb dX0_away_30 hl (by decide) rfl (fun ls hl => ?_)
        refine lv_iload hx hb dX0_away_32 (lv_at hl 0 rfl) ?_
        refine lv_if_eq (tgt := 51) hx hb dX0_away_34 (by decide) (fun c_34 => ?_) (fun c_34 => ?_)
        · skip
          have c_34 : 0 = 0 := (neq (a := 0) (b := 0) (rfl) (rfl) (by omega) (by omega)).mp c_34
          refine lv_aload_n hx hb dX0_away_51 rfl (lv_at hl 1 rfl) ?_
          refine lv_iconst (v := 0) hx hb dX0_away_52 (by decide) ?_
          refine c_m (k_V (As := [.int 0]) (rest := []) F (k_X0_finding x 0 (by decide)) (cwV 1 hts (lw_V q457 q459 qs2 q91 q460) rfl rfl rfl (by decide +kernel) ⟨Nat.le_of_ble_eq_true rfl, Nat.le_of_ble_eq_true rfl⟩) hI hK (hw.recv hI hK (cf_main) rfl) rfl hl.1 rfl (Nat.le_of_ble_eq_true rfl) dX0_away_53 ⟨Nat.le_of_ble_eq_true rfl, Nat.le_of_ble_eq_true rfl⟩) hS (fun H1 locs1 hI hS => ?_)
          obtain ⟨x3, ex3⟩ : ∃ z, z = (fnd x 0) := ⟨_, rfl⟩
          rw [← ex3] at hI
          exact W.iret hx hb hr (fun t ht _ => ⟨rI (by first | (simp only [a_away, aR, if_neg c_5, if_neg c_12, if_pos c_22, if_pos c_34]; done) | (simp only [a_away, aR_orN, if_neg c_5, if_neg c_12, if_pos c_22, if_pos c_34]; done) | (simp [a_away, aR, c_5, c_12, c_22, c_34]; done)), ⟨x3, (by first | (simp only [a_away, if_neg c_5, if_neg c_12, if_pos c_22, if_pos c_34]; rw [aC_orN, ex3]; exact jk_orC (by assumption) _) | (simp only [a_away, aC, if_neg c_5, if_neg c_12, if_pos c_22, if_pos c_34, xs_self]; rw [ex3]; exact jk_a _ _) | (simp only [a_away, if_neg c_5, if_neg c_12, if_pos c_22, if_pos c_34]; rw [aC_orN, ex3]; exact jk_orC (by first | exact jk_rfl | assumption) _) | (simp only [a_away, aC, if_neg c_5, if_neg c_12, if_pos c_22, if_pos c_34, xs_self]; assumption) | (simp only [a_away, if_neg c_5, if_neg c_12, if_pos c_22, if_pos c_34]; rw [aC_orN]; refine jk_eq ?_; rw [ex3]; done) | (simp only [a_away, aC, if_neg c_5, if_neg c_12, if_pos c_22, if_pos c_34, xs_self]; refine jk_eq ?_; rw [ex3]; done)), by rw [ht]; exact hI⟩, hS.F ht⟩) hS.2.2 dX0_away_56
        · skip
          have c_34 : ¬ 0 = 0 := fun z => c_34 ((neq (a := 0) (b := 0) (rfl) (rfl) (by omega) (by omega)).mpr z)
          exact absurd (by decide) c_34
      · skip
        obtain ⟨k, hk, eg⟩ := isGl_to hn h8 c_5
        have eg2 : g.toNatClampNeg = k := by rw [eg, nI_clamp (by omega)]
        obtain ⟨j, hj, en⟩ := inI_to (b := 20) rfl (by decide) c_22
        have en2 : n.toNatClampNeg = j := by rw [en, nI_clamp (by omega)]
        subst eg
        subst en
        refine lv_iconst (v := 1) hx hb dX0_away_25 (by decide) ?_
        refine lv_goto (tgt := 30) hx hb dX0_away_26 (by decide) ?_
        refine lv_istore (lv' := [(4, .int 1), (0, .ref (L 44)), (1, .int (nI k)), (2, .int t), (3, .int (nI j))]) hx hb dX0_away_30 hl (by decide) rfl (fun ls hl => ?_)
        refine lv_iload hx hb dX0_away_32 (lv_at hl 0 rfl) ?_
        refine lv_if_eq (tgt := 51) hx hb dX0_away_34 (by decide) (fun c_34 => ?_) (fun c_34 => ?_)
        · skip
          have c_34 : 1 = 0 := (neq (a := 1) (b := 0) (rfl) (rfl) (by omega) (by omega)).mp c_34
          exact absurd c_34 (by decide)
        · skip
          have c_34 : ¬ 1 = 0 := fun z => c_34 ((neq (a := 1) (b := 0) (rfl) (rfl) (by omega) (by omega)).mpr z)
          refine lv_aload_n hx hb dX0_away_37 rfl (lv_at hl 1 rfl) ?_
          refine lv_aload_n hx hb dX0_away_38 rfl (lv_at hl 1 rfl) ?_
          refine lv_iload_n hx hb dX0_away_39 rfl (lv_at hl 2 rfl) ?_
          refine lv_iload_n hx hb dX0_away_40 rfl (lv_at hl 3 rfl) ?_
          refine lv_iload_n hx hb dX0_away_41 rfl (lv_at hl 4 rfl) ?_
          refine c_j (k_V (As := [.int (nI k), .int t, .int (nI j)]) (rest := [.ref (L 44)]) F (k_X0_fewestAway x (hO) (hd) hgo k t j (by omega) (by omega)) (cwV 3 hts (lw_V q862 q864 qs21 q91 q865) rfl rfl rfl (by decide +kernel) ⟨Nat.le_of_ble_eq_true rfl, Nat.le_of_ble_eq_true rfl⟩) hI hK (hw.recv hI hK (cf_main) rfl) rfl hl.1 rfl (Nat.le_of_ble_eq_true rfl) dX0_away_42 ⟨Nat.le_of_ble_eq_true rfl, Nat.le_of_ble_eq_true rfl⟩) hS (fun x4 H1 locs1 ex4 hI hS => ?_)
          refine c_m (k_V (As := [.int (faI (x.1 0) k t j)]) (rest := []) F (k_X0_orNone x4 (faI (x.1 0) k t j)) (cwV 1 hts (lw_V q794 q796 qs13 q91 q797) rfl rfl rfl (by decide +kernel) ⟨Nat.le_of_ble_eq_true rfl, Nat.le_of_ble_eq_true rfl⟩) hI hK (hw.recv hI hK (cf_main) rfl) rfl hl.1 rfl (Nat.le_of_ble_eq_true rfl) dX0_away_45 ⟨Nat.le_of_ble_eq_true rfl, Nat.le_of_ble_eq_true rfl⟩) hS (fun H1 locs1 hI hS => ?_)
          obtain ⟨x5, ex5⟩ : ∃ z, z = orC x4 (faI (x.1 0) k t j) := ⟨_, rfl⟩
          rw [← ex5] at hI
          refine lv_goto (tgt := 56) hx hb dX0_away_48 (by decide) ?_
          exact W.iret hx hb hr (fun t ht _ => ⟨rI (by first | (simp only [a_away, aR, if_neg c_5, if_neg c_12, if_neg c_22, eg2, en2, if_neg c_34]; done) | (simp only [a_away, aR_orN, if_neg c_5, if_neg c_12, if_neg c_22, eg2, en2, if_neg c_34]; done) | (simp [a_away, aR, c_5, c_12, c_22, eg2, en2, c_34]; done)), ⟨x5, (by first | (simp only [a_away, if_neg c_5, if_neg c_12, if_neg c_22, eg2, en2, if_neg c_34]; rw [aC_orN, ex5]; exact jk_orC (by assumption) _) | (simp only [a_away, aC, if_neg c_5, if_neg c_12, if_neg c_22, eg2, en2, if_neg c_34, xs_self]; rw [ex5, ex4]; exact jk_a _ _) | (simp only [a_away, if_neg c_5, if_neg c_12, if_neg c_22, eg2, en2, if_neg c_34]; rw [aC_orN, ex5, ex4]; exact jk_orC (by first | exact jk_rfl | assumption) _) | (simp only [a_away, aC, if_neg c_5, if_neg c_12, if_neg c_22, eg2, en2, if_neg c_34, xs_self]; assumption) | (simp only [a_away, if_neg c_5, if_neg c_12, if_neg c_22, eg2, en2, if_neg c_34]; rw [aC_orN]; refine jk_eq ?_; rw [ex5, ex4]; done) | (simp only [a_away, aC, if_neg c_5, if_neg c_12, if_neg c_22, eg2, en2, if_neg c_34, xs_self]; refine jk_eq ?_; rw [ex5, ex4]; done)), by rw [ht]; exact hI⟩, hS.F ht⟩) hS.2.2 dX0_away_56
