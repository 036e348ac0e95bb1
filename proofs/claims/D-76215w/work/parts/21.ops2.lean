/-! LeftGloves: acts that look ahead -/
theorem jk_aC {x x' : cst} (h : jk x x') (a : act) : jk (aC x a) (aC x' a) := by
  cases a with
  | inl k => exact jk_fnd h k
  | inr q => exact jk_xs h q.2
theorem jk_ag (x : cst) (a : wd) : jk x (xs (xs x 2 a) 0 (x.1 0)) := ⟨xs_at _ _ _, by rw [xs_ne (by decide), xs_ne (by decide)], rfl, rfl, rfl, rfl⟩
theorem jk.wOk {x x' : cst} (h : jk x x') (hO : wOk (x.1 0)) : wOk (x'.1 0) := by rw [h.1]; exact hO
def orI (v : Int32) : Int32 := if v = -1 then -1000001 - nI 3 else v
def orC (x : cst) (v : Int32) : cst := if v = -1 then fnd x 3 else x
def a_orN (f : wd) (v : Int32) : act := if v = -1 then .inl 3 else .inr (v, f)
theorem aR_orN (f : wd) (v : Int32) : aR (a_orN f v) = orI v := by
  unfold a_orN orI; split <;> rfl
theorem aC_orN (x : cst) (v : Int32) : aC x (a_orN (x.1 0) v) = orC x v := by
  unfold a_orN orC; split
  · rfl
  · exact xs_self _ _
theorem jk_orC {x x' : cst} (h : jk x x') (v : Int32) : jk (orC x v) (orC x' v) := by
  unfold orC; split
  · exact jk_fnd h 3
  · exact h
def a_ahead (f : wd) (g w n : Int32) : act := if inI w 1 6 = 0 then .inl 0 else if w = 2 then .inl 0 else if isGlI f g = 0 then .inl 0 else if inI n 0 100 = 0 then .inl 0 else .inr (tbI f g.toNatClampNeg w.toNatClampNeg n.toNatClampNeg, f)
def a_hears (f : wd) (g t : Int32) : act := if isGlI f g = 0 then .inl 0 else if inI t 0 15 = 0 then .inl 0 else a_orN f (rhI (p_hears f g.toNatClampNeg t))
def a_wise (f : wd) (g v : Int32) : act := if isGlI f g = 0 then .inl 0 else if inI v 0 16 = 0 then .inl 0 else a_orN f (rhI (p_wise f g.toNatClampNeg v))
def a_out (f : wd) (t : Int32) : act := if inI t 0 65535 = 0 then .inl 0 else a_orN f (rhI (p_out f t))
theorem k_X0_orNone {l : Launch} {D : va_G} {L : Nat → Nat} {A : Nat → Prop} (x : cst) (v : Int32) : Met l yX0_orNone (ws_ yX0_orNone cX0_orNone 2 (some .int)) ({ frames := 1, cells := 0, slots := 0, locals := 21 } : Room) (va_Pc [.ref (L 44), .int v] (pI D (cfC D L x) A)) (nQ D (cfC D L (orC x v)) A (some (.int (orI v)))) 0 0 A := by
  refine met_I (by decide) rfl (Nat.le_of_ble_eq_true rfl) ?_
  intro p e s m below meth c ls hx hb hr hml hown hts hlocks hl hI hK
  have F : CallFix p m c cX0_orNone 2 s _ lw_all RX0 := ⟨hx, hb, hml, hown, hts⟩
  have hl : lv_has ls 2 [(0, .ref (L 44)), (1, .int v)] := hl
  have hS : va_S A s.heap s.heap [] := va_S.rf
  refine lv_iload_n hx hb dX0_orNone_0 rfl (lv_at hl 1 rfl) ?_
  refine lv_iconst (v := (-1)) hx hb dX0_orNone_1 (by decide) ?_
  refine lv_icmp_ne (tgt := 13) hx hb dX0_orNone_2 (by decide) (fun c_2 => ?_) (fun c_2 => ?_)
  · skip
    refine lv_iload_n hx hb dX0_orNone_13 rfl (lv_at hl 1 rfl) ?_
    exact W.iret hx hb hr (fun t ht _ => ⟨rI (by simp [orI, c_2]), by rw [ht]; exact hw_eq hI (congrArg (cfC D L) (by first | (rw []; simp only [orC, if_neg c_2]; done) | (simp only [orC, if_neg c_2]; done))), hS.F ht⟩) hS.2.2 dX0_orNone_14
  · skip
    refine lv_aload_n hx hb dX0_orNone_5 rfl (lv_at hl 0 rfl) ?_
    refine lv_iconst (v := 3) hx hb dX0_orNone_6 (by decide) ?_
    refine c_m (k_V (As := [.int 3]) (rest := []) F (k_X0_finding x 3 (by decide)) (cwV 1 hts (lw_V q457 q459 qs2 q91 q460) rfl rfl rfl (by decide +kernel) ⟨Nat.le_of_ble_eq_true rfl, Nat.le_of_ble_eq_true rfl⟩) hI hK (hw.recv hI hK (cf_main) rfl) rfl hl.1 rfl (Nat.le_of_ble_eq_true rfl) dX0_orNone_7 ⟨Nat.le_of_ble_eq_true rfl, Nat.le_of_ble_eq_true rfl⟩) hS (fun H1 locs1 hI hS => ?_)
    obtain ⟨x1, ex1⟩ : ∃ z, z = (fnd x 3) := ⟨_, rfl⟩
    rw [← ex1] at hI
    refine lv_goto (tgt := 14) hx hb dX0_orNone_10 (by decide) ?_
    exact W.iret hx hb hr (fun t ht _ => ⟨rI (by simp [orI, c_2]), by rw [ht]; exact hw_eq hI (congrArg (cfC D L) (by first | (rw [ex1]; simp only [orC, if_pos c_2]; done) | (simp only [orC, if_pos c_2]; done))), hS.F ht⟩) hS.2.2 dX0_orNone_14
theorem k_X0_ahead {l : Launch} {D : va_G} {L : Nat → Nat} {A : Nat → Prop} (x : cst) (hO : wOk (x.1 0)) (hd : isN (x.1 0 1 2) 10000) (g w n : Int32) : Met l yX0_ahead (ws_ yX0_ahead cX0_ahead 5 (some .int)) ({ frames := 8, cells := 0, slots := 0, locals := 177 } : Room) (va_Pc [.ref (L 44), .int g, .int w, .int n] (pI D (cfC D L x) A)) (jQ D L (aC x (a_ahead (x.1 0) g w n)) A (some (.int (aR (a_ahead (x.1 0) g w n))))) 0 0 A := by
  refine met_I (by decide) rfl (Nat.le_of_ble_eq_true rfl) ?_
  intro p e s m below meth c ls hx hb hr hml hown hts hlocks hl hI hK
  have F : CallFix p m c cX0_ahead 5 s _ lw_all RX0 := ⟨hx, hb, hml, hown, hts⟩
  have hl : lv_has ls 5 [(0, .ref (L 44)), (1, .int g), (2, .int w), (3, .int n)] := hl
  have hS : va_S A s.heap s.heap [] := va_S.rf
  obtain ⟨nn, hn, h8⟩ : ∃ n, x.1 0 1 0 = nI n ∧ n ≤ 8 := ⟨_, hO.n⟩
  have hN : wN (x.1 0) = nn := by unfold wN; rw [hn, nI_clamp (by omega)]
  refine lv_iload_n hx hb dX0_ahead_0 rfl (lv_at hl 2 rfl) ?_
  refine lv_iconst (v := 1) hx hb dX0_ahead_1 (by decide) ?_
  refine lv_bipush (v := 6) hx hb dX0_ahead_2 (by decide) ?_
  refine c_r (k_S (As := [.int w, .int 1, .int 6]) (rest := []) F (k_X0_in w 1 6) (va_cwS 3 hts (lw_S q439 q440 q91 q441) rfl rfl rfl (by decide +kernel) ⟨Nat.le_of_ble_eq_true rfl, Nat.le_of_ble_eq_true rfl⟩) rfl hl.1 rfl (Nat.le_of_ble_eq_true rfl) dX0_ahead_4 ⟨Nat.le_of_ble_eq_true rfl, Nat.le_of_ble_eq_true rfl⟩) ?_
  refine lv_if_eq (tgt := 19) hx hb dX0_ahead_7 (by decide) (fun c_7 => ?_) (fun c_7 => ?_)
  · skip
    refine lv_iconst (v := 0) hx hb dX0_ahead_19 (by decide) ?_
    refine lv_istore (lv' := [(4, .int 0), (0, .ref (L 44)), (1, .int g), (2, .int w), (3, .int n)]) hx hb dX0_ahead_20 hl (by decide) rfl (fun ls hl => ?_)
    refine lv_aload_n hx hb dX0_ahead_22 rfl (lv_at hl 1 rfl) ?_
    refine lv_iload_n hx hb dX0_ahead_23 rfl (lv_at hl 2 rfl) ?_
    refine c_r (k_V (As := [.int g]) (rest := []) F (k_X0_isGlove x g) (cwV 1 hts (lw_V q543 q545 qs5 q91 q546) rfl rfl rfl (by decide +kernel) ⟨Nat.le_of_ble_eq_true rfl, Nat.le_of_ble_eq_true rfl⟩) hI hK (hw.recv hI hK (cf_main) rfl) rfl hl.1 rfl (Nat.le_of_ble_eq_true rfl) dX0_ahead_24 ⟨Nat.le_of_ble_eq_true rfl, Nat.le_of_ble_eq_true rfl⟩) ?_
    refine lv_if_eq (tgt := 55) hx hb dX0_ahead_27 (by decide) (fun c_27 => ?_) (fun c_27 => ?_)
    · skip
      refine lv_aload_n hx hb dX0_ahead_55 rfl (lv_at hl 1 rfl) ?_
      refine lv_iconst (v := 0) hx hb dX0_ahead_56 (by decide) ?_
      refine c_m (k_V (As := [.int 0]) (rest := []) F (k_X0_finding x 0 (by decide)) (cwV 1 hts (lw_V q457 q459 qs2 q91 q460) rfl rfl rfl (by decide +kernel) ⟨Nat.le_of_ble_eq_true rfl, Nat.le_of_ble_eq_true rfl⟩) hI hK (hw.recv hI hK (cf_main) rfl) rfl hl.1 rfl (Nat.le_of_ble_eq_true rfl) dX0_ahead_57 ⟨Nat.le_of_ble_eq_true rfl, Nat.le_of_ble_eq_true rfl⟩) hS (fun H1 locs1 hI hS => ?_)
      obtain ⟨x1, ex1⟩ : ∃ z, z = (fnd x 0) := ⟨_, rfl⟩
      rw [← ex1] at hI
      exact W.iret hx hb hr (fun t ht _ => ⟨rI (by first | (simp only [a_ahead, aR, if_pos c_7, if_pos c_27]; done) | (simp only [a_ahead, aR_orN, if_pos c_7, if_pos c_27]; done) | (simp [a_ahead, aR, c_7, c_27]; done)), ⟨x1, (by first | (simp only [a_ahead, aC, if_pos c_7, if_pos c_27, xs_self]; rw [ex1]; exact jk_a _ _) | (simp only [a_ahead, if_pos c_7, if_pos c_27]; rw [aC_orN, ex1]; exact jk_orC (jk_a _ _) _) | (simp only [a_ahead, aC, if_pos c_7, if_pos c_27, xs_self]; refine jk_eq ?_; rw [ex1]; done)), by rw [ht]; exact hI⟩, hS.F ht⟩) hS.2.2 dX0_ahead_60
    · skip
      refine lv_iload hx hb dX0_ahead_30 (lv_at hl 0 rfl) ?_
      refine lv_if_eq (tgt := 55) hx hb dX0_ahead_32 (by decide) (fun c_32 => ?_) (fun c_32 => ?_)
      · skip
        have c_32 : 0 = 0 := (neq (a := 0) (b := 0) (rfl) (rfl) (by omega) (by omega)).mp c_32
        refine lv_aload_n hx hb dX0_ahead_55 rfl (lv_at hl 1 rfl) ?_
        refine lv_iconst (v := 0) hx hb dX0_ahead_56 (by decide) ?_
        refine c_m (k_V (As := [.int 0]) (rest := []) F (k_X0_finding x 0 (by decide)) (cwV 1 hts (lw_V q457 q459 qs2 q91 q460) rfl rfl rfl (by decide +kernel) ⟨Nat.le_of_ble_eq_true rfl, Nat.le_of_ble_eq_true rfl⟩) hI hK (hw.recv hI hK (cf_main) rfl) rfl hl.1 rfl (Nat.le_of_ble_eq_true rfl) dX0_ahead_57 ⟨Nat.le_of_ble_eq_true rfl, Nat.le_of_ble_eq_true rfl⟩) hS (fun H1 locs1 hI hS => ?_)
        obtain ⟨x2, ex2⟩ : ∃ z, z = (fnd x 0) := ⟨_, rfl⟩
        rw [← ex2] at hI
        exact W.iret hx hb hr (fun t ht _ => ⟨rI (by first | (simp only [a_ahead, aR, if_pos c_7, if_neg c_27, if_pos c_32]; done) | (simp only [a_ahead, aR_orN, if_pos c_7, if_neg c_27, if_pos c_32]; done) | (simp [a_ahead, aR, c_7, c_27, c_32]; done)), ⟨x2, (by first | (simp only [a_ahead, aC, if_pos c_7, if_neg c_27, if_pos c_32, xs_self]; rw [ex2]; exact jk_a _ _) | (simp only [a_ahead, if_pos c_7, if_neg c_27, if_pos c_32]; rw [aC_orN, ex2]; exact jk_orC (jk_a _ _) _) | (simp only [a_ahead, aC, if_pos c_7, if_neg c_27, if_pos c_32, xs_self]; refine jk_eq ?_; rw [ex2]; done)), by rw [ht]; exact hI⟩, hS.F ht⟩) hS.2.2 dX0_ahead_60
      · skip
        have c_32 : ¬ 0 = 0 := fun z => c_32 ((neq (a := 0) (b := 0) (rfl) (rfl) (by omega) (by omega)).mpr z)
        exact absurd (by decide) c_32
  · skip
    refine lv_iload_n hx hb dX0_ahead_10 rfl (lv_at hl 2 rfl) ?_
    refine lv_iconst (v := 2) hx hb dX0_ahead_11 (by decide) ?_
    refine lv_icmp_eq (tgt := 19) hx hb dX0_ahead_12 (by decide) (fun c_12 => ?_) (fun c_12 => ?_)
    · skip
      refine lv_iconst (v := 0) hx hb dX0_ahead_19 (by decide) ?_
      refine lv_istore (lv' := [(4, .int 0), (0, .ref (L 44)), (1, .int g), (2, .int w), (3, .int n)]) hx hb dX0_ahead_20 hl (by decide) rfl (fun ls hl => ?_)
      refine lv_aload_n hx hb dX0_ahead_22 rfl (lv_at hl 1 rfl) ?_
      refine lv_iload_n hx hb dX0_ahead_23 rfl (lv_at hl 2 rfl) ?_
      refine c_r (k_V (As := [.int g]) (rest := []) F (k_X0_isGlove x g) (cwV 1 hts (lw_V q543 q545 qs5 q91 q546) rfl rfl rfl (by decide +kernel) ⟨Nat.le_of_ble_eq_true rfl, Nat.le_of_ble_eq_true rfl⟩) hI hK (hw.recv hI hK (cf_main) rfl) rfl hl.1 rfl (Nat.le_of_ble_eq_true rfl) dX0_ahead_24 ⟨Nat.le_of_ble_eq_true rfl, Nat.le_of_ble_eq_true rfl⟩) ?_
      refine lv_if_eq (tgt := 55) hx hb dX0_ahead_27 (by decide) (fun c_27 => ?_) (fun c_27 => ?_)
      · skip
        refine lv_aload_n hx hb dX0_ahead_55 rfl (lv_at hl 1 rfl) ?_
        refine lv_iconst (v := 0) hx hb dX0_ahead_56 (by decide) ?_
        refine c_m (k_V (As := [.int 0]) (rest := []) F (k_X0_finding x 0 (by decide)) (cwV 1 hts (lw_V q457 q459 qs2 q91 q460) rfl rfl rfl (by decide +kernel) ⟨Nat.le_of_ble_eq_true rfl, Nat.le_of_ble_eq_true rfl⟩) hI hK (hw.recv hI hK (cf_main) rfl) rfl hl.1 rfl (Nat.le_of_ble_eq_true rfl) dX0_ahead_57 ⟨Nat.le_of_ble_eq_true rfl, Nat.le_of_ble_eq_true rfl⟩) hS (fun H1 locs1 hI hS => ?_)
        obtain ⟨x3, ex3⟩ : ∃ z, z = (fnd x 0) := ⟨_, rfl⟩
        rw [← ex3] at hI
        exact W.iret hx hb hr (fun t ht _ => ⟨rI (by first | (simp only [a_ahead, aR, if_neg c_7, if_pos c_12, if_pos c_27]; done) | (simp only [a_ahead, aR_orN, if_neg c_7, if_pos c_12, if_pos c_27]; done) | (simp [a_ahead, aR, c_7, c_12, c_27]; done)), ⟨x3, (by first | (simp only [a_ahead, aC, if_neg c_7, if_pos c_12, if_pos c_27, xs_self]; rw [ex3]; exact jk_a _ _) | (simp only [a_ahead, if_neg c_7, if_pos c_12, if_pos c_27]; rw [aC_orN, ex3]; exact jk_orC (jk_a _ _) _) | (simp only [a_ahead, aC, if_neg c_7, if_pos c_12, if_pos c_27, xs_self]; refine jk_eq ?_; rw [ex3]; done)), by rw [ht]; exact hI⟩, hS.F ht⟩) hS.2.2 dX0_ahead_60
      · skip
        refine lv_iload hx hb dX0_ahead_30 (lv_at hl 0 rfl) ?_
        refine lv_if_eq (tgt := 55) hx hb dX0_ahead_32 (by decide) (fun c_32 => ?_) (fun c_32 => ?_)
        · skip
          have c_32 : 0 = 0 := (neq (a := 0) (b := 0) (rfl) (rfl) (by omega) (by omega)).mp c_32
          refine lv_aload_n hx hb dX0_ahead_55 rfl (lv_at hl 1 rfl) ?_
          refine lv_iconst (v := 0) hx hb dX0_ahead_56 (by decide) ?_
          refine c_m (k_V (As := [.int 0]) (rest := []) F (k_X0_finding x 0 (by decide)) (cwV 1 hts (lw_V q457 q459 qs2 q91 q460) rfl rfl rfl (by decide +kernel) ⟨Nat.le_of_ble_eq_true rfl, Nat.le_of_ble_eq_true rfl⟩) hI hK (hw.recv hI hK (cf_main) rfl) rfl hl.1 rfl (Nat.le_of_ble_eq_true rfl) dX0_ahead_57 ⟨Nat.le_of_ble_eq_true rfl, Nat.le_of_ble_eq_true rfl⟩) hS (fun H1 locs1 hI hS => ?_)
          obtain ⟨x4, ex4⟩ : ∃ z, z = (fnd x 0) := ⟨_, rfl⟩
          rw [← ex4] at hI
          exact W.iret hx hb hr (fun t ht _ => ⟨rI (by first | (simp only [a_ahead, aR, if_neg c_7, if_pos c_12, if_neg c_27, if_pos c_32]; done) | (simp only [a_ahead, aR_orN, if_neg c_7, if_pos c_12, if_neg c_27, if_pos c_32]; done) | (simp [a_ahead, aR, c_7, c_12, c_27, c_32]; done)), ⟨x4, (by first | (simp only [a_ahead, aC, if_neg c_7, if_pos c_12, if_neg c_27, if_pos c_32, xs_self]; rw [ex4]; exact jk_a _ _) | (simp only [a_ahead, if_neg c_7, if_pos c_12, if_neg c_27, if_pos c_32]; rw [aC_orN, ex4]; exact jk_orC (jk_a _ _) _) | (simp only [a_ahead, aC, if_neg c_7, if_pos c_12, if_neg c_27, if_pos c_32, xs_self]; refine jk_eq ?_; rw [ex4]; done)), by rw [ht]; exact hI⟩, hS.F ht⟩) hS.2.2 dX0_ahead_60
        · skip
          have c_32 : ¬ 0 = 0 := fun z => c_32 ((neq (a := 0) (b := 0) (rfl) (rfl) (by omega) (by omega)).mpr z)
          exact absurd (by decide) c_32
    · skip
      refine lv_iconst (v := 1) hx hb dX0_ahead_15 (by decide) ?_
      refine lv_goto (tgt := 20) hx hb dX0_ahead_16 (by decide) ?_
      refine lv_istore (lv' := [(4, .int 1), (0, .ref (L 44)), (1, .int g), (2, .int w), (3, .int n)]) hx hb dX0_ahead_20 hl (by decide) rfl (fun ls hl => ?_)
      refine lv_aload_n hx hb dX0_ahead_22 rfl (lv_at hl 1 rfl) ?_
      refine lv_iload_n hx hb dX0_ahead_23 rfl (lv_at hl 2 rfl) ?_
      refine c_r (k_V (As := [.int g]) (rest := []) F (k_X0_isGlove x g) (cwV 1 hts (lw_V q543 q545 qs5 q91 q546) rfl rfl rfl (by decide +kernel) ⟨Nat.le_of_ble_eq_true rfl, Nat.le_of_ble_eq_true rfl⟩) hI hK (hw.recv hI hK (cf_main) rfl) rfl hl.1 rfl (Nat.le_of_ble_eq_true rfl) dX0_ahead_24 ⟨Nat.le_of_ble_eq_true rfl, Nat.le_of_ble_eq_true rfl⟩) ?_
      refine lv_if_eq (tgt := 55) hx hb dX0_ahead_27 (by decide) (fun c_27 => ?_) (fun c_27 => ?_)
      · skip
        refine lv_aload_n hx hb dX0_ahead_55 rfl (lv_at hl 1 rfl) ?_
        refine lv_iconst (v := 0) hx hb dX0_ahead_56 (by decide) ?_
        refine c_m (k_V (As := [.int 0]) (rest := []) F (k_X0_finding x 0 (by decide)) (cwV 1 hts (lw_V q457 q459 qs2 q91 q460) rfl rfl rfl (by decide +kernel) ⟨Nat.le_of_ble_eq_true rfl, Nat.le_of_ble_eq_true rfl⟩) hI hK (hw.recv hI hK (cf_main) rfl) rfl hl.1 rfl (Nat.le_of_ble_eq_true rfl) dX0_ahead_57 ⟨Nat.le_of_ble_eq_true rfl, Nat.le_of_ble_eq_true rfl⟩) hS (fun H1 locs1 hI hS => ?_)
        obtain ⟨x5, ex5⟩ : ∃ z, z = (fnd x 0) := ⟨_, rfl⟩
        rw [← ex5] at hI
        exact W.iret hx hb hr (fun t ht _ => ⟨rI (by first | (simp only [a_ahead, aR, if_neg c_7, if_neg c_12, if_pos c_27]; done) | (simp only [a_ahead, aR_orN, if_neg c_7, if_neg c_12, if_pos c_27]; done) | (simp [a_ahead, aR, c_7, c_12, c_27]; done)), ⟨x5, (by first | (simp only [a_ahead, aC, if_neg c_7, if_neg c_12, if_pos c_27, xs_self]; rw [ex5]; exact jk_a _ _) | (simp only [a_ahead, if_neg c_7, if_neg c_12, if_pos c_27]; rw [aC_orN, ex5]; exact jk_orC (jk_a _ _) _) | (simp only [a_ahead, aC, if_neg c_7, if_neg c_12, if_pos c_27, xs_self]; refine jk_eq ?_; rw [ex5]; done)), by rw [ht]; exact hI⟩, hS.F ht⟩) hS.2.2 dX0_ahead_60
      · skip
        refine lv_iload hx hb dX0_ahead_30 (lv_at hl 0 rfl) ?_
        refine lv_if_eq (tgt := 55) hx hb dX0_ahead_32 (by decide) (fun c_32 => ?_) (fun c_32 => ?_)
        · skip
          have c_32 : 1 = 0 := (neq (a := 1) (b := 0) (rfl) (rfl) (by omega) (by omega)).mp c_32
          exact absurd c_32 (by decide)
        · skip
          have c_32 : ¬ 1 = 0 := fun z => c_32 ((neq (a := 1) (b := 0) (rfl) (rfl) (by omega) (by omega)).mpr z)
          refine lv_iload_n hx hb dX0_ahead_35 rfl (lv_at hl 4 rfl) ?_
          refine lv_iconst (v := 0) hx hb dX0_ahead_36 (by decide) ?_
          refine lv_bipush (v := 100) hx hb dX0_ahead_37 (by decide) ?_
          refine c_r (k_S (As := [.int n, .int 0, .int 100]) (rest := []) F (k_X0_in n 0 100) (va_cwS 3 hts (lw_S q439 q440 q91 q441) rfl rfl rfl (by decide +kernel) ⟨Nat.le_of_ble_eq_true rfl, Nat.le_of_ble_eq_true rfl⟩) rfl hl.1 rfl (Nat.le_of_ble_eq_true rfl) dX0_ahead_39 ⟨Nat.le_of_ble_eq_true rfl, Nat.le_of_ble_eq_true rfl⟩) ?_
          refine lv_if_eq (tgt := 55) hx hb dX0_ahead_42 (by decide) (fun c_42 => ?_) (fun c_42 => ?_)
          · skip
            refine lv_aload_n hx hb dX0_ahead_55 rfl (lv_at hl 1 rfl) ?_
            refine lv_iconst (v := 0) hx hb dX0_ahead_56 (by decide) ?_
            refine c_m (k_V (As := [.int 0]) (rest := []) F (k_X0_finding x 0 (by decide)) (cwV 1 hts (lw_V q457 q459 qs2 q91 q460) rfl rfl rfl (by decide +kernel) ⟨Nat.le_of_ble_eq_true rfl, Nat.le_of_ble_eq_true rfl⟩) hI hK (hw.recv hI hK (cf_main) rfl) rfl hl.1 rfl (Nat.le_of_ble_eq_true rfl) dX0_ahead_57 ⟨Nat.le_of_ble_eq_true rfl, Nat.le_of_ble_eq_true rfl⟩) hS (fun H1 locs1 hI hS => ?_)
            obtain ⟨x6, ex6⟩ : ∃ z, z = (fnd x 0) := ⟨_, rfl⟩
            rw [← ex6] at hI
            exact W.iret hx hb hr (fun t ht _ => ⟨rI (by first | (simp only [a_ahead, aR, if_neg c_7, if_neg c_12, if_neg c_27, if_neg c_32, if_pos c_42]; done) | (simp only [a_ahead, aR_orN, if_neg c_7, if_neg c_12, if_neg c_27, if_neg c_32, if_pos c_42]; done) | (simp [a_ahead, aR, c_7, c_12, c_27, c_32, c_42]; done)), ⟨x6, (by first | (simp only [a_ahead, aC, if_neg c_7, if_neg c_12, if_neg c_27, if_neg c_32, if_pos c_42, xs_self]; rw [ex6]; exact jk_a _ _) | (simp only [a_ahead, if_neg c_7, if_neg c_12, if_neg c_27, if_neg c_32, if_pos c_42]; rw [aC_orN, ex6]; exact jk_orC (jk_a _ _) _) | (simp only [a_ahead, aC, if_neg c_7, if_neg c_12, if_neg c_27, if_neg c_32, if_pos c_42, xs_self]; refine jk_eq ?_; rw [ex6]; done)), by rw [ht]; exact hI⟩, hS.F ht⟩) hS.2.2 dX0_ahead_60
          · skip
            obtain ⟨k, hk, eg⟩ := isGl_to hn h8 c_27
            have eg2 : g.toNatClampNeg = k := by rw [eg, nI_clamp (by omega)]
            obtain ⟨r, hr1, hr6, ew⟩ := inI_to1 (a := 1) (b := 6) rfl rfl (by decide) (by decide) c_7
            have ew2 : w.toNatClampNeg = r := by rw [ew, nI_clamp (by omega)]
            obtain ⟨j, hj, en⟩ := inI_to (b := 100) rfl (by decide) c_42
            have en2 : n.toNatClampNeg = j := by rw [en, nI_clamp (by omega)]
            subst eg
            subst ew
            subst en
            refine lv_aload_n hx hb dX0_ahead_45 rfl (lv_at hl 1 rfl) ?_
            refine lv_iload_n hx hb dX0_ahead_46 rfl (lv_at hl 2 rfl) ?_
            refine lv_iload_n hx hb dX0_ahead_47 rfl (lv_at hl 3 rfl) ?_
            refine lv_iload_n hx hb dX0_ahead_48 rfl (lv_at hl 4 rfl) ?_
            refine c_m (k_VW (n := 3) (As := [.int (nI k), .int (nI r), .int (nI j)]) (rest := []) F (k_X0_toldBehind x (hO) (hd) k r j (by omega) (by omega) (by omega)) ⟨rfl, rfl⟩ ⟨Nat.le_of_ble_eq_true rfl, Nat.le_of_ble_eq_true rfl⟩ q772 q774 qs11 q91 q775 (by decide +kernel) hI hK (hw.recv hI hK (cf_main) rfl) rfl hl.1 rfl (Nat.le_of_ble_eq_true rfl) dX0_ahead_49 ⟨Nat.le_of_ble_eq_true rfl, Nat.le_of_ble_eq_true rfl⟩) hS (fun H1 locs1 hI hS => ?_)
            obtain ⟨x7, ex7⟩ : ∃ z, z = xs x 2 (x.1 0) := ⟨_, rfl⟩
            rw [← ex7] at hI
            refine lv_goto (tgt := 60) hx hb dX0_ahead_52 (by decide) ?_
            exact W.iret hx hb hr (fun t ht _ => ⟨rI (by first | (simp only [a_ahead, aR, if_neg c_7, if_neg c_12, if_neg c_27, if_neg c_32, if_neg c_42, eg2, ew2, en2]; done) | (simp only [a_ahead, aR_orN, if_neg c_7, if_neg c_12, if_neg c_27, if_neg c_32, if_neg c_42, eg2, ew2, en2]; done) | (simp [a_ahead, aR, c_7, c_12, c_27, c_32, c_42, eg2, ew2, en2]; done)), ⟨x7, (by first | (simp only [a_ahead, aC, if_neg c_7, if_neg c_12, if_neg c_27, if_neg c_32, if_neg c_42, eg2, ew2, en2, xs_self]; rw [ex7]; exact jk_a _ _) | (simp only [a_ahead, if_neg c_7, if_neg c_12, if_neg c_27, if_neg c_32, if_neg c_42, eg2, ew2, en2]; rw [aC_orN, ex7]; exact jk_orC (jk_a _ _) _) | (simp only [a_ahead, aC, if_neg c_7, if_neg c_12, if_neg c_27, if_neg c_32, if_neg c_42, eg2, ew2, en2, xs_self]; refine jk_eq ?_; rw [ex7]; done)), by rw [ht]; exact hI⟩, hS.F ht⟩) hS.2.2 dX0_ahead_60
theorem k_X0_hears {l : Launch} {D : va_G} {L : Nat → Nat} {A : Nat → Prop} (x : cst) (hO : wOk (x.1 0)) (hd : isN (x.1 0 1 2) 10000) (g t : Int32) : Met l yX0_hears (ws_ yX0_hears cX0_hears 3 (some .int)) ({ frames := 7, cells := 0, slots := 0, locals := 155 } : Room) (va_Pc [.ref (L 44), .int g, .int t] (pI D (cfC D L x) A)) (jQ D L (aC x (a_hears (x.1 0) g t)) A (some (.int (aR (a_hears (x.1 0) g t))))) 0 0 A := by
  refine met_I (by decide) rfl (Nat.le_of_ble_eq_true rfl) ?_
  intro p e s m below meth c ls hx hb hr hml hown hts hlocks hl hI hK
  have F : CallFix p m c cX0_hears 3 s _ lw_all RX0 := ⟨hx, hb, hml, hown, hts⟩
  have hl : lv_has ls 3 [(0, .ref (L 44)), (1, .int g), (2, .int t)] := hl
  have hS : va_S A s.heap s.heap [] := va_S.rf
  obtain ⟨nn, hn, h8⟩ : ∃ n, x.1 0 1 0 = nI n ∧ n ≤ 8 := ⟨_, hO.n⟩
  have hN : wN (x.1 0) = nn := by unfold wN; rw [hn, nI_clamp (by omega)]
  refine lv_aload_n hx hb dX0_hears_0 rfl (lv_at hl 0 rfl) ?_
  refine lv_iload_n hx hb dX0_hears_1 rfl (lv_at hl 1 rfl) ?_
  refine c_r (k_V (As := [.int g]) (rest := []) F (k_X0_isGlove x g) (cwV 1 hts (lw_V q543 q545 qs5 q91 q546) rfl rfl rfl (by decide +kernel) ⟨Nat.le_of_ble_eq_true rfl, Nat.le_of_ble_eq_true rfl⟩) hI hK (hw.recv hI hK (cf_main) rfl) rfl hl.1 rfl (Nat.le_of_ble_eq_true rfl) dX0_hears_2 ⟨Nat.le_of_ble_eq_true rfl, Nat.le_of_ble_eq_true rfl⟩) ?_
  refine lv_if_eq (tgt := 28) hx hb dX0_hears_5 (by decide) (fun c_5 => ?_) (fun c_5 => ?_)
  · skip
    refine lv_aload_n hx hb dX0_hears_28 rfl (lv_at hl 0 rfl) ?_
    refine lv_iconst (v := 0) hx hb dX0_hears_29 (by decide) ?_
    refine c_m (k_V (As := [.int 0]) (rest := []) F (k_X0_finding x 0 (by decide)) (cwV 1 hts (lw_V q457 q459 qs2 q91 q460) rfl rfl rfl (by decide +kernel) ⟨Nat.le_of_ble_eq_true rfl, Nat.le_of_ble_eq_true rfl⟩) hI hK (hw.recv hI hK (cf_main) rfl) rfl hl.1 rfl (Nat.le_of_ble_eq_true rfl) dX0_hears_30 ⟨Nat.le_of_ble_eq_true rfl, Nat.le_of_ble_eq_true rfl⟩) hS (fun H1 locs1 hI hS => ?_)
    obtain ⟨x1, ex1⟩ : ∃ z, z = (fnd x 0) := ⟨_, rfl⟩
    rw [← ex1] at hI
    exact W.iret hx hb hr (fun t ht _ => ⟨rI (by first | (simp only [a_hears, aR, if_pos c_5]; done) | (simp only [a_hears, aR_orN, if_pos c_5]; done) | (simp [a_hears, aR, c_5]; done)), ⟨x1, (by first | (simp only [a_hears, aC, if_pos c_5, xs_self]; rw [ex1]; exact jk_a _ _) | (simp only [a_hears, if_pos c_5]; rw [aC_orN, ex1]; exact jk_orC (jk_a _ _) _) | (simp only [a_hears, aC, if_pos c_5, xs_self]; refine jk_eq ?_; rw [ex1]; done)), by rw [ht]; exact hI⟩, hS.F ht⟩) hS.2.2 dX0_hears_33
  · skip
    refine lv_iload_n hx hb dX0_hears_8 rfl (lv_at hl 2 rfl) ?_
    refine c_r (k_S (As := [.int t]) (rest := []) F (k_X0_isTopic t) (va_cwS 1 hts (lw_S q454 q455 q91 q456) rfl rfl rfl (by decide +kernel) ⟨Nat.le_of_ble_eq_true rfl, Nat.le_of_ble_eq_true rfl⟩) rfl hl.1 rfl (Nat.le_of_ble_eq_true rfl) dX0_hears_9 ⟨Nat.le_of_ble_eq_true rfl, Nat.le_of_ble_eq_true rfl⟩) ?_
    refine lv_if_eq (tgt := 28) hx hb dX0_hears_12 (by decide) (fun c_12 => ?_) (fun c_12 => ?_)
    · skip
      refine lv_aload_n hx hb dX0_hears_28 rfl (lv_at hl 0 rfl) ?_
      refine lv_iconst (v := 0) hx hb dX0_hears_29 (by decide) ?_
      refine c_m (k_V (As := [.int 0]) (rest := []) F (k_X0_finding x 0 (by decide)) (cwV 1 hts (lw_V q457 q459 qs2 q91 q460) rfl rfl rfl (by decide +kernel) ⟨Nat.le_of_ble_eq_true rfl, Nat.le_of_ble_eq_true rfl⟩) hI hK (hw.recv hI hK (cf_main) rfl) rfl hl.1 rfl (Nat.le_of_ble_eq_true rfl) dX0_hears_30 ⟨Nat.le_of_ble_eq_true rfl, Nat.le_of_ble_eq_true rfl⟩) hS (fun H1 locs1 hI hS => ?_)
      obtain ⟨x2, ex2⟩ : ∃ z, z = (fnd x 0) := ⟨_, rfl⟩
      rw [← ex2] at hI
      exact W.iret hx hb hr (fun t ht _ => ⟨rI (by first | (simp only [a_hears, aR, if_neg c_5, if_pos c_12]; done) | (simp only [a_hears, aR_orN, if_neg c_5, if_pos c_12]; done) | (simp [a_hears, aR, c_5, c_12]; done)), ⟨x2, (by first | (simp only [a_hears, aC, if_neg c_5, if_pos c_12, xs_self]; rw [ex2]; exact jk_a _ _) | (simp only [a_hears, if_neg c_5, if_pos c_12]; rw [aC_orN, ex2]; exact jk_orC (jk_a _ _) _) | (simp only [a_hears, aC, if_neg c_5, if_pos c_12, xs_self]; refine jk_eq ?_; rw [ex2]; done)), by rw [ht]; exact hI⟩, hS.F ht⟩) hS.2.2 dX0_hears_33
    · skip
      obtain ⟨k, hk, eg⟩ := isGl_to hn h8 c_5
      have eg2 : g.toNatClampNeg = k := by rw [eg, nI_clamp (by omega)]
      subst eg
      refine lv_aload_n hx hb dX0_hears_15 rfl (lv_at hl 0 rfl) ?_
      refine lv_aload_n hx hb dX0_hears_16 rfl (lv_at hl 0 rfl) ?_
      refine lv_iload_n hx hb dX0_hears_17 rfl (lv_at hl 1 rfl) ?_
      refine lv_iload_n hx hb dX0_hears_18 rfl (lv_at hl 2 rfl) ?_
      refine c_m (k_VW (n := 2) (As := [.int (nI k), .int t]) (rest := [.ref (L 44)]) F (k_X0_heardBehind x (hO) (hd) k t (by omega)) ⟨rfl, rfl⟩ ⟨Nat.le_of_ble_eq_true rfl, Nat.le_of_ble_eq_true rfl⟩ q790 q792 qs12 q91 q793 (by decide +kernel) hI hK (hw.recv hI hK (cf_main) rfl) rfl hl.1 rfl (Nat.le_of_ble_eq_true rfl) dX0_hears_19 ⟨Nat.le_of_ble_eq_true rfl, Nat.le_of_ble_eq_true rfl⟩) hS (fun H1 locs1 hI hS => ?_)
      obtain ⟨x3, ex3⟩ : ∃ z, z = xs x 2 (x.1 0) := ⟨_, rfl⟩
      rw [← ex3] at hI
      refine c_m (k_V (As := [.int (rhI (p_hears (x.1 0) k t))]) (rest := []) F (k_X0_orNone x3 (rhI (p_hears (x.1 0) k t))) (cwV 1 hts (lw_V q794 q796 qs13 q91 q797) rfl rfl rfl (by decide +kernel) ⟨Nat.le_of_ble_eq_true rfl, Nat.le_of_ble_eq_true rfl⟩) hI hK (hw.recv hI hK (cf_main) rfl) rfl hl.1 rfl (Nat.le_of_ble_eq_true rfl) dX0_hears_22 ⟨Nat.le_of_ble_eq_true rfl, Nat.le_of_ble_eq_true rfl⟩) hS (fun H1 locs1 hI hS => ?_)
      obtain ⟨x4, ex4⟩ : ∃ z, z = orC x3 (rhI (p_hears (x.1 0) k t)) := ⟨_, rfl⟩
      rw [← ex4] at hI
      refine lv_goto (tgt := 33) hx hb dX0_hears_25 (by decide) ?_
      exact W.iret hx hb hr (fun t ht _ => ⟨rI (by first | (simp only [a_hears, aR, if_neg c_5, if_neg c_12, eg2]; done) | (simp only [a_hears, aR_orN, if_neg c_5, if_neg c_12, eg2]; done) | (simp [a_hears, aR, c_5, c_12, eg2]; done)), ⟨x4, (by first | (simp only [a_hears, aC, if_neg c_5, if_neg c_12, eg2, xs_self]; rw [ex4, ex3]; exact jk_a _ _) | (simp only [a_hears, if_neg c_5, if_neg c_12, eg2]; rw [aC_orN, ex4, ex3]; exact jk_orC (jk_a _ _) _) | (simp only [a_hears, aC, if_neg c_5, if_neg c_12, eg2, xs_self]; refine jk_eq ?_; rw [ex4, ex3]; done)), by rw [ht]; exact hI⟩, hS.F ht⟩) hS.2.2 dX0_hears_33
theorem k_X0_wise {l : Launch} {D : va_G} {L : Nat → Nat} {A : Nat → Prop} (x : cst) (hO : wOk (x.1 0)) (hd : isN (x.1 0 1 2) 10000) (g v : Int32) : Met l yX0_wise (ws_ yX0_wise cX0_wise 3 (some .int)) ({ frames := 7, cells := 0, slots := 0, locals := 155 } : Room) (va_Pc [.ref (L 44), .int g, .int v] (pI D (cfC D L x) A)) (jQ D L (aC x (a_wise (x.1 0) g v)) A (some (.int (aR (a_wise (x.1 0) g v))))) 0 0 A := by
  refine met_I (by decide) rfl (Nat.le_of_ble_eq_true rfl) ?_
  intro p e s m below meth c ls hx hb hr hml hown hts hlocks hl hI hK
  have F : CallFix p m c cX0_wise 3 s _ lw_all RX0 := ⟨hx, hb, hml, hown, hts⟩
  have hl : lv_has ls 3 [(0, .ref (L 44)), (1, .int g), (2, .int v)] := hl
  have hS : va_S A s.heap s.heap [] := va_S.rf
  obtain ⟨nn, hn, h8⟩ : ∃ n, x.1 0 1 0 = nI n ∧ n ≤ 8 := ⟨_, hO.n⟩
  have hN : wN (x.1 0) = nn := by unfold wN; rw [hn, nI_clamp (by omega)]
  refine lv_aload_n hx hb dX0_wise_0 rfl (lv_at hl 0 rfl) ?_
  refine lv_iload_n hx hb dX0_wise_1 rfl (lv_at hl 1 rfl) ?_
  refine c_r (k_V (As := [.int g]) (rest := []) F (k_X0_isGlove x g) (cwV 1 hts (lw_V q543 q545 qs5 q91 q546) rfl rfl rfl (by decide +kernel) ⟨Nat.le_of_ble_eq_true rfl, Nat.le_of_ble_eq_true rfl⟩) hI hK (hw.recv hI hK (cf_main) rfl) rfl hl.1 rfl (Nat.le_of_ble_eq_true rfl) dX0_wise_2 ⟨Nat.le_of_ble_eq_true rfl, Nat.le_of_ble_eq_true rfl⟩) ?_
  refine lv_if_eq (tgt := 28) hx hb dX0_wise_5 (by decide) (fun c_5 => ?_) (fun c_5 => ?_)
  · skip
    refine lv_aload_n hx hb dX0_wise_28 rfl (lv_at hl 0 rfl) ?_
    refine lv_iconst (v := 0) hx hb dX0_wise_29 (by decide) ?_
    refine c_m (k_V (As := [.int 0]) (rest := []) F (k_X0_finding x 0 (by decide)) (cwV 1 hts (lw_V q457 q459 qs2 q91 q460) rfl rfl rfl (by decide +kernel) ⟨Nat.le_of_ble_eq_true rfl, Nat.le_of_ble_eq_true rfl⟩) hI hK (hw.recv hI hK (cf_main) rfl) rfl hl.1 rfl (Nat.le_of_ble_eq_true rfl) dX0_wise_30 ⟨Nat.le_of_ble_eq_true rfl, Nat.le_of_ble_eq_true rfl⟩) hS (fun H1 locs1 hI hS => ?_)
    obtain ⟨x1, ex1⟩ : ∃ z, z = (fnd x 0) := ⟨_, rfl⟩
    rw [← ex1] at hI
    exact W.iret hx hb hr (fun t ht _ => ⟨rI (by first | (simp only [a_wise, aR, if_pos c_5]; done) | (simp only [a_wise, aR_orN, if_pos c_5]; done) | (simp [a_wise, aR, c_5]; done)), ⟨x1, (by first | (simp only [a_wise, aC, if_pos c_5, xs_self]; rw [ex1]; exact jk_a _ _) | (simp only [a_wise, if_pos c_5]; rw [aC_orN, ex1]; exact jk_orC (jk_a _ _) _) | (simp only [a_wise, aC, if_pos c_5, xs_self]; refine jk_eq ?_; rw [ex1]; done)), by rw [ht]; exact hI⟩, hS.F ht⟩) hS.2.2 dX0_wise_33
  · skip
    refine lv_iload_n hx hb dX0_wise_8 rfl (lv_at hl 2 rfl) ?_
    refine c_r (k_S (As := [.int v]) (rest := []) F (k_X0_isMany v) (va_cwS 1 hts (lw_S q802 q803 q91 q804) rfl rfl rfl (by decide +kernel) ⟨Nat.le_of_ble_eq_true rfl, Nat.le_of_ble_eq_true rfl⟩) rfl hl.1 rfl (Nat.le_of_ble_eq_true rfl) dX0_wise_9 ⟨Nat.le_of_ble_eq_true rfl, Nat.le_of_ble_eq_true rfl⟩) ?_
    refine lv_if_eq (tgt := 28) hx hb dX0_wise_12 (by decide) (fun c_12 => ?_) (fun c_12 => ?_)
    · skip
      refine lv_aload_n hx hb dX0_wise_28 rfl (lv_at hl 0 rfl) ?_
      refine lv_iconst (v := 0) hx hb dX0_wise_29 (by decide) ?_
      refine c_m (k_V (As := [.int 0]) (rest := []) F (k_X0_finding x 0 (by decide)) (cwV 1 hts (lw_V q457 q459 qs2 q91 q460) rfl rfl rfl (by decide +kernel) ⟨Nat.le_of_ble_eq_true rfl, Nat.le_of_ble_eq_true rfl⟩) hI hK (hw.recv hI hK (cf_main) rfl) rfl hl.1 rfl (Nat.le_of_ble_eq_true rfl) dX0_wise_30 ⟨Nat.le_of_ble_eq_true rfl, Nat.le_of_ble_eq_true rfl⟩) hS (fun H1 locs1 hI hS => ?_)
      obtain ⟨x2, ex2⟩ : ∃ z, z = (fnd x 0) := ⟨_, rfl⟩
      rw [← ex2] at hI
      exact W.iret hx hb hr (fun t ht _ => ⟨rI (by first | (simp only [a_wise, aR, if_neg c_5, if_pos c_12]; done) | (simp only [a_wise, aR_orN, if_neg c_5, if_pos c_12]; done) | (simp [a_wise, aR, c_5, c_12]; done)), ⟨x2, (by first | (simp only [a_wise, aC, if_neg c_5, if_pos c_12, xs_self]; rw [ex2]; exact jk_a _ _) | (simp only [a_wise, if_neg c_5, if_pos c_12]; rw [aC_orN, ex2]; exact jk_orC (jk_a _ _) _) | (simp only [a_wise, aC, if_neg c_5, if_pos c_12, xs_self]; refine jk_eq ?_; rw [ex2]; done)), by rw [ht]; exact hI⟩, hS.F ht⟩) hS.2.2 dX0_wise_33
    · skip
      obtain ⟨k, hk, eg⟩ := isGl_to hn h8 c_5
      have eg2 : g.toNatClampNeg = k := by rw [eg, nI_clamp (by omega)]
      subst eg
      refine lv_aload_n hx hb dX0_wise_15 rfl (lv_at hl 0 rfl) ?_
      refine lv_aload_n hx hb dX0_wise_16 rfl (lv_at hl 0 rfl) ?_
      refine lv_iload_n hx hb dX0_wise_17 rfl (lv_at hl 1 rfl) ?_
      refine lv_iload_n hx hb dX0_wise_18 rfl (lv_at hl 2 rfl) ?_
      refine c_m (k_VW (n := 2) (As := [.int (nI k), .int v]) (rest := [.ref (L 44)]) F (k_X0_wiseBehind x (hO) (hd) k v (by omega)) ⟨rfl, rfl⟩ ⟨Nat.le_of_ble_eq_true rfl, Nat.le_of_ble_eq_true rfl⟩ q805 q807 qs14 q91 q808 (by decide +kernel) hI hK (hw.recv hI hK (cf_main) rfl) rfl hl.1 rfl (Nat.le_of_ble_eq_true rfl) dX0_wise_19 ⟨Nat.le_of_ble_eq_true rfl, Nat.le_of_ble_eq_true rfl⟩) hS (fun H1 locs1 hI hS => ?_)
      obtain ⟨x3, ex3⟩ : ∃ z, z = xs x 2 (x.1 0) := ⟨_, rfl⟩
      rw [← ex3] at hI
      refine c_m (k_V (As := [.int (rhI (p_wise (x.1 0) k v))]) (rest := []) F (k_X0_orNone x3 (rhI (p_wise (x.1 0) k v))) (cwV 1 hts (lw_V q794 q796 qs13 q91 q797) rfl rfl rfl (by decide +kernel) ⟨Nat.le_of_ble_eq_true rfl, Nat.le_of_ble_eq_true rfl⟩) hI hK (hw.recv hI hK (cf_main) rfl) rfl hl.1 rfl (Nat.le_of_ble_eq_true rfl) dX0_wise_22 ⟨Nat.le_of_ble_eq_true rfl, Nat.le_of_ble_eq_true rfl⟩) hS (fun H1 locs1 hI hS => ?_)
      obtain ⟨x4, ex4⟩ : ∃ z, z = orC x3 (rhI (p_wise (x.1 0) k v)) := ⟨_, rfl⟩
      rw [← ex4] at hI
      refine lv_goto (tgt := 33) hx hb dX0_wise_25 (by decide) ?_
      exact W.iret hx hb hr (fun t ht _ => ⟨rI (by first | (simp only [a_wise, aR, if_neg c_5, if_neg c_12, eg2]; done) | (simp only [a_wise, aR_orN, if_neg c_5, if_neg c_12, eg2]; done) | (simp [a_wise, aR, c_5, c_12, eg2]; done)), ⟨x4, (by first | (simp only [a_wise, aC, if_neg c_5, if_neg c_12, eg2, xs_self]; rw [ex4, ex3]; exact jk_a _ _) | (simp only [a_wise, if_neg c_5, if_neg c_12, eg2]; rw [aC_orN, ex4, ex3]; exact jk_orC (jk_a _ _) _) | (simp only [a_wise, aC, if_neg c_5, if_neg c_12, eg2, xs_self]; refine jk_eq ?_; rw [ex4, ex3]; done)), by rw [ht]; exact hI⟩, hS.F ht⟩) hS.2.2 dX0_wise_33
theorem k_X0_out {l : Launch} {D : va_G} {L : Nat → Nat} {A : Nat → Prop} (x : cst) (hO : wOk (x.1 0)) (hd : isN (x.1 0 1 2) 10000) (t : Int32) : Met l yX0_out (ws_ yX0_out cX0_out 2 (some .int)) ({ frames := 7, cells := 0, slots := 0, locals := 154 } : Room) (va_Pc [.ref (L 44), .int t] (pI D (cfC D L x) A)) (jQ D L (aC x (a_out (x.1 0) t)) A (some (.int (aR (a_out (x.1 0) t))))) 0 0 A := by
  refine met_I (by decide) rfl (Nat.le_of_ble_eq_true rfl) ?_
  intro p e s m below meth c ls hx hb hr hml hown hts hlocks hl hI hK
  have F : CallFix p m c cX0_out 2 s _ lw_all RX0 := ⟨hx, hb, hml, hown, hts⟩
  have hl : lv_has ls 2 [(0, .ref (L 44)), (1, .int t)] := hl
  have hS : va_S A s.heap s.heap [] := va_S.rf
  obtain ⟨nn, hn, h8⟩ : ∃ n, x.1 0 1 0 = nI n ∧ n ≤ 8 := ⟨_, hO.n⟩
  have hN : wN (x.1 0) = nn := by unfold wN; rw [hn, nI_clamp (by omega)]
  refine lv_iload_n hx hb dX0_out_0 rfl (lv_at hl 1 rfl) ?_
  refine c_r (k_S (As := [.int t]) (rest := []) F (k_X0_isTopics t) (va_cwS 1 hts (lw_S q669 q670 q91 q671) rfl rfl rfl (by decide +kernel) ⟨Nat.le_of_ble_eq_true rfl, Nat.le_of_ble_eq_true rfl⟩) rfl hl.1 rfl (Nat.le_of_ble_eq_true rfl) dX0_out_1 ⟨Nat.le_of_ble_eq_true rfl, Nat.le_of_ble_eq_true rfl⟩) ?_
  refine lv_if_eq (tgt := 19) hx hb dX0_out_4 (by decide) (fun c_4 => ?_) (fun c_4 => ?_)
  · skip
    refine lv_aload_n hx hb dX0_out_19 rfl (lv_at hl 0 rfl) ?_
    refine lv_iconst (v := 0) hx hb dX0_out_20 (by decide) ?_
    refine c_m (k_V (As := [.int 0]) (rest := []) F (k_X0_finding x 0 (by decide)) (cwV 1 hts (lw_V q457 q459 qs2 q91 q460) rfl rfl rfl (by decide +kernel) ⟨Nat.le_of_ble_eq_true rfl, Nat.le_of_ble_eq_true rfl⟩) hI hK (hw.recv hI hK (cf_main) rfl) rfl hl.1 rfl (Nat.le_of_ble_eq_true rfl) dX0_out_21 ⟨Nat.le_of_ble_eq_true rfl, Nat.le_of_ble_eq_true rfl⟩) hS (fun H1 locs1 hI hS => ?_)
    obtain ⟨x1, ex1⟩ : ∃ z, z = (fnd x 0) := ⟨_, rfl⟩
    rw [← ex1] at hI
    exact W.iret hx hb hr (fun t ht _ => ⟨rI (by first | (simp only [a_out, aR, if_pos c_4]; done) | (simp only [a_out, aR_orN, if_pos c_4]; done) | (simp [a_out, aR, c_4]; done)), ⟨x1, (by first | (simp only [a_out, aC, if_pos c_4, xs_self]; rw [ex1]; exact jk_a _ _) | (simp only [a_out, if_pos c_4]; rw [aC_orN, ex1]; exact jk_orC (jk_a _ _) _) | (simp only [a_out, aC, if_pos c_4, xs_self]; refine jk_eq ?_; rw [ex1]; done)), by rw [ht]; exact hI⟩, hS.F ht⟩) hS.2.2 dX0_out_24
  · skip
    refine lv_aload_n hx hb dX0_out_7 rfl (lv_at hl 0 rfl) ?_
    refine lv_aload_n hx hb dX0_out_8 rfl (lv_at hl 0 rfl) ?_
    refine lv_iload_n hx hb dX0_out_9 rfl (lv_at hl 1 rfl) ?_
    refine c_m (k_VW (n := 1) (As := [.int t]) (rest := [.ref (L 44)]) F (k_X0_outBehind x (hO) (hd) t) ⟨rfl, rfl⟩ ⟨Nat.le_of_ble_eq_true rfl, Nat.le_of_ble_eq_true rfl⟩ q814 q816 qs15 q91 q817 (by decide +kernel) hI hK (hw.recv hI hK (cf_main) rfl) rfl hl.1 rfl (Nat.le_of_ble_eq_true rfl) dX0_out_10 ⟨Nat.le_of_ble_eq_true rfl, Nat.le_of_ble_eq_true rfl⟩) hS (fun H1 locs1 hI hS => ?_)
    obtain ⟨x2, ex2⟩ : ∃ z, z = xs x 2 (x.1 0) := ⟨_, rfl⟩
    rw [← ex2] at hI
    refine c_m (k_V (As := [.int (rhI (p_out (x.1 0) t))]) (rest := []) F (k_X0_orNone x2 (rhI (p_out (x.1 0) t))) (cwV 1 hts (lw_V q794 q796 qs13 q91 q797) rfl rfl rfl (by decide +kernel) ⟨Nat.le_of_ble_eq_true rfl, Nat.le_of_ble_eq_true rfl⟩) hI hK (hw.recv hI hK (cf_main) rfl) rfl hl.1 rfl (Nat.le_of_ble_eq_true rfl) dX0_out_13 ⟨Nat.le_of_ble_eq_true rfl, Nat.le_of_ble_eq_true rfl⟩) hS (fun H1 locs1 hI hS => ?_)
    obtain ⟨x3, ex3⟩ : ∃ z, z = orC x2 (rhI (p_out (x.1 0) t)) := ⟨_, rfl⟩
    rw [← ex3] at hI
    refine lv_goto (tgt := 24) hx hb dX0_out_16 (by decide) ?_
    exact W.iret hx hb hr (fun t ht _ => ⟨rI (by first | (simp only [a_out, aR, if_neg c_4]; done) | (simp only [a_out, aR_orN, if_neg c_4]; done) | (simp [a_out, aR, c_4]; done)), ⟨x3, (by first | (simp only [a_out, aC, if_neg c_4, xs_self]; rw [ex3, ex2]; exact jk_a _ _) | (simp only [a_out, if_neg c_4]; rw [aC_orN, ex3, ex2]; exact jk_orC (jk_a _ _) _) | (simp only [a_out, aC, if_neg c_4, xs_self]; refine jk_eq ?_; rw [ex3, ex2]; done)), by rw [ht]; exact hI⟩, hS.F ht⟩) hS.2.2 dX0_out_24
