/-! LeftGloves: lower, images, counts -/
def guR (f : wd) (sy : Int32) : Nat → Int32
  | 0 => -1
  | j + 1 => if heI f (sy - ldI sy + nI j) = 0 then nI j else guR f sy j
theorem guR_s {f : wd} {sy : Int32} {j : Nat} (h : 0 < j) : guR f sy j = if heI f (sy - ldI sy + nI (j - 1)) = 0 then nI (j - 1) else guR f sy (j - 1) := by
  obtain ⟨q, rfl⟩ : ∃ q, j = q + 1 := ⟨j - 1, by omega⟩
  rfl
def guI (f : wd) (sy : Int32) : Int32 := guR f sy 10
def a_lower (f : wd) (i : Int32) : act := if inI i 0 5 = 0 then .inl 0 else a_orN f (guI f (f 0 i.toNatClampNeg))
def dkI (f : wd) (k : Nat) (t : Int32) (n : Nat) : Int32 := hsI (kbI (psn f n) (1 <<< (nI k &&& 31))) t
def hoS (f : wd) (i : Nat) (a : Int32) : Int32 := a + (if f 9 i = -1 then 0 else 1)
def hoI (f : wd) : Int32 := itr (hoS f) 0 10
def sttS (r : Nat → Int32) (k : Int32) (i : Nat) (a : Int32) : Int32 := a + (if k = -1 then r i else if k = nI i then r i else 0)
def sttI (r : Nat → Int32) (k : Int32) : Int32 := itr (sttS r k) 0 7
def a_count (f : wd) (tp w : Int32) : act := if w = 0 then .inr (f 1 2, f) else if w = 1 then .inr (f 1 0, f) else if w = 2 then .inr (bcI (knI f 3 (allI f)), f) else if w = 3 then .inr (bcI (knI f 5 (allI f)), f) else if w = 4 then .inr (diI f, f) else if w = 5 then .inr (tp, f) else if w = 6 then .inr (f 1 3, f) else if w = 7 then .inr (hoI f, f) else .inl 0
def a_hold (f : wd) (s g : Int32) : act := if inI s 0 9 = 0 then .inl 0 else if g = -1 then .inr (1, u2 f 9 s.toNatClampNeg g) else if isGlI f g = 0 then .inl 0 else .inr (1, u2 f 9 s.toNatClampNeg g)
def a_status (r : Nat → Int32) (f : wd) (k : Int32) : act := if inI k (-1) 6 = 0 then .inl 0 else .inr (sttI r k, f)
theorem k_X0_greatestUnheard {l : Launch} {D : va_G} {L : Nat → Nat} {A : Nat → Prop} (x : cst) (hO : wOk (x.1 0)) (sy : Int32) : Met l yX0_greatestUnheard (ws_ yX0_greatestUnheard cX0_greatestUnheard 3 (some .int)) ({ frames := 5, cells := 0, slots := 0, locals := 107 } : Room) (va_Pc [.ref (L 44), .int sy] (pI D (cfC D L x) A)) (rQ (.int (guI (x.1 0) sy))) 0 0 nof := by
  refine met_I (by decide) rfl (Nat.le_of_ble_eq_true rfl) ?_
  intro p e s m below meth c ls hx hb hr hml hown hts hlocks hl hI hK
  have F : CallFix p m c cX0_greatestUnheard 3 s _ lw_all RX0 := ⟨hx, hb, hml, hown, hts⟩
  have hl : lv_has ls 3 [(0, .ref (L 44)), (1, .int sy)] := hl
  refine lv_bipush (v := 9) hx hb dX0_greatestUnheard_0 (by decide) ?_
  refine lv_istore_n (lv' := [(2, .int 9), (0, .ref (L 44)), (1, .int sy)]) hx hb dX0_greatestUnheard_2 rfl hl (by decide) rfl (fun ls hl => ?_)
  have lp3 : ∀ (fuel : Nat) (j : Nat), (j ≤ 10) → (guI (x.1 0) sy = guR (x.1 0) sy j) → j < fuel → ∀ (v2 : Int32), v2 = (nI j - 1) → ∀ (ls : Array Slot), lv_has ls 3 [(0, .ref (L 44)), (1, .int sy), (2, .int v2)] → W p l e ({ frames := 5, cells := 0, slots := 0, locals := 107 } : Room) s m ([.ref (L 44), .int sy] : List Value).toArray below meth c s.heap [] 0 0 (MQ below (rQ (.int (guI (x.1 0) sy))) ([.ref (L 44), .int sy] : List Value).toArray s 0 0 nof) (F0 m 3 ls []) := by
    intro fuel
    induction fuel with
    | zero => intro j hj hG hf; exact absurd hf (Nat.not_lt_zero _)
    | succ fuel ih3 =>
      intro j hj hG hf3 v2 e2  ls hl
      subst e2
      refine lv_iload_n hx hb dX0_greatestUnheard_3 rfl (lv_at hl 2 rfl) ?_
      refine lv_if_lt (tgt := 28) hx hb dX0_greatestUnheard_4 (by decide) (fun c_4 => ?_) (fun c_4 => ?_)
      · skip
        have hj0 : j = 0 := (pred_lt (by omega)).mp c_4
        refine lv_iload_n hx hb dX0_greatestUnheard_28 rfl (lv_at hl 2 rfl) ?_
        exact W.iret hx hb hr (fun t ht _ => ⟨rI (by first | (rw [hG, hj0]; rfl) | (rw [hG, guR_s (by omega)]; rw [hq] at c_19; rw [if_pos c_19, hq])), ht⟩) (fun q h => by cases h) dX0_greatestUnheard_29
      · skip
        have hj0 : 0 < j := by have := mt (pred_lt (j := j) (by omega)).mpr c_4; omega
        have hq : nI j - 1 = nI (j - 1) := pred_s hj0
        refine lv_aload_n hx hb dX0_greatestUnheard_7 rfl (lv_at hl 0 rfl) ?_
        refine lv_iload_n hx hb dX0_greatestUnheard_8 rfl (lv_at hl 1 rfl) ?_
        refine lv_iload_n hx hb dX0_greatestUnheard_9 rfl (lv_at hl 1 rfl) ?_
        refine c_r (k_S (As := [.int sy]) (rest := [.int sy, .ref (L 44)]) F (k_X0_loudOf sy) (va_cwS 1 hts (lw_S q725 q726 q91 q727) rfl rfl rfl (by decide +kernel) ⟨Nat.le_of_ble_eq_true rfl, Nat.le_of_ble_eq_true rfl⟩) rfl hl.1 rfl (Nat.le_of_ble_eq_true rfl) dX0_greatestUnheard_10 ⟨Nat.le_of_ble_eq_true rfl, Nat.le_of_ble_eq_true rfl⟩) ?_
        refine lv_isub hx hb dX0_greatestUnheard_13 ?_
        refine lv_iload_n hx hb dX0_greatestUnheard_14 rfl (lv_at hl 2 rfl) ?_
        refine lv_iadd hx hb dX0_greatestUnheard_15 ?_
        refine c_r (k_V (As := [.int ((sy - (ldI sy)) + (nI j - 1))]) (rest := []) F (k_X0_hearers x (hO) ((sy - (ldI sy)) + (nI j - 1))) (cwV 1 hts (lw_V q721 q723 qs10 q91 q724) rfl rfl rfl (by decide +kernel) ⟨Nat.le_of_ble_eq_true rfl, Nat.le_of_ble_eq_true rfl⟩) hI hK (hw.recv hI hK (cf_main) rfl) rfl hl.1 rfl (Nat.le_of_ble_eq_true rfl) dX0_greatestUnheard_16 ⟨Nat.le_of_ble_eq_true rfl, Nat.le_of_ble_eq_true rfl⟩) ?_
        refine lv_if_eq (tgt := 28) hx hb dX0_greatestUnheard_19 (by decide) (fun c_19 => ?_) (fun c_19 => ?_)
        · skip
          refine lv_iload_n hx hb dX0_greatestUnheard_28 rfl (lv_at hl 2 rfl) ?_
          exact W.iret hx hb hr (fun t ht _ => ⟨rI (by first | (rw [hG, hj0]; rfl) | (rw [hG, guR_s (by omega)]; rw [hq] at c_19; rw [if_pos c_19, hq])), ht⟩) (fun q h => by cases h) dX0_greatestUnheard_29
        · skip
          refine lv_iinc (v := ((nI j - 1) + (-1))) (lv' := [(2, .int ((nI j - 1) + (-1))), (0, .ref (L 44)), (1, .int sy)]) hx hb dX0_greatestUnheard_22 hl (k := 2) rfl (rfl) (by decide) rfl (fun ls hl => ?_)
          refine lv_goto (tgt := 3) hx hb dX0_greatestUnheard_25 (by decide) ?_
          exact ih3 (j - 1) (by omega) (by rw [hG, guR_s (by omega)]; rw [hq] at c_19; rw [if_neg c_19]) (by omega) ((nI j - 1) + (-1)) (by rw [hq, Int32.sub_eq_add_neg]) ls (lv_sub hl [1, 2, 0] rfl)
  exact lp3 (_ + 1) (10) (by decide) (rfl) (Nat.lt_succ_self _) 9 (rfl) ls (lv_sub hl [1, 2, 0] rfl)
theorem k_X0_lower {l : Launch} {D : va_G} {L : Nat → Nat} {A : Nat → Prop} (x : cst) (hO : wOk (x.1 0)) (i : Int32) : Met l yX0_lower (ws_ yX0_lower cX0_lower 2 (some .int)) ({ frames := 6, cells := 0, slots := 0, locals := 129 } : Room) (va_Pc [.ref (L 44), .int i] (pI D (cfC D L x) A)) (jQ D L (aC x (a_lower (x.1 0) i)) A (some (.int (aR (a_lower (x.1 0) i))))) 0 0 A := by
  refine met_I (by decide) rfl (Nat.le_of_ble_eq_true rfl) ?_
  intro p e s m below meth c ls hx hb hr hml hown hts hlocks hl hI hK
  have F : CallFix p m c cX0_lower 2 s _ lw_all RX0 := ⟨hx, hb, hml, hown, hts⟩
  have hl : lv_has ls 2 [(0, .ref (L 44)), (1, .int i)] := hl
  have hS : va_S A s.heap s.heap [] := va_S.rf
  refine lv_iload_n hx hb dX0_lower_0 rfl (lv_at hl 1 rfl) ?_
  refine c_r (k_S (As := [.int i]) (rest := []) F (k_X0_isPlace i) (va_cwS 1 hts (lw_S q436 q437 q91 q438) rfl rfl rfl (by decide +kernel) ⟨Nat.le_of_ble_eq_true rfl, Nat.le_of_ble_eq_true rfl⟩) rfl hl.1 rfl (Nat.le_of_ble_eq_true rfl) dX0_lower_1 ⟨Nat.le_of_ble_eq_true rfl, Nat.le_of_ble_eq_true rfl⟩) ?_
  refine lv_if_eq (tgt := 27) hx hb dX0_lower_4 (by decide) (fun c_4 => ?_) (fun c_4 => ?_)
  · skip
    refine lv_aload_n hx hb dX0_lower_27 rfl (lv_at hl 0 rfl) ?_
    refine lv_iconst (v := 0) hx hb dX0_lower_28 (by decide) ?_
    refine c_m (k_V (As := [.int 0]) (rest := []) F (k_X0_finding x 0 (by decide)) (cwV 1 hts (lw_V q457 q459 qs2 q91 q460) rfl rfl rfl (by decide +kernel) ⟨Nat.le_of_ble_eq_true rfl, Nat.le_of_ble_eq_true rfl⟩) hI hK (hw.recv hI hK (cf_main) rfl) rfl hl.1 rfl (Nat.le_of_ble_eq_true rfl) dX0_lower_29 ⟨Nat.le_of_ble_eq_true rfl, Nat.le_of_ble_eq_true rfl⟩) hS (fun H1 locs1 hI hS => ?_)
    obtain ⟨x1, ex1⟩ : ∃ z, z = (fnd x 0) := ⟨_, rfl⟩
    rw [← ex1] at hI
    exact W.iret hx hb hr (fun t ht _ => ⟨rI (by first | (simp only [a_lower, aR, if_pos c_4]; done) | (simp only [a_lower, aR_orN, if_pos c_4]; done) | (simp [a_lower, aR, c_4]; done)), ⟨x1, (by first | (simp only [a_lower, if_pos c_4]; rw [aC_orN, ex1]; exact jk_orC (by assumption) _) | (simp only [a_lower, aC, if_pos c_4, xs_self]; rw [ex1]; exact jk_a _ _) | (simp only [a_lower, if_pos c_4]; rw [aC_orN, ex1]; exact jk_orC (by first | exact jk_rfl | assumption) _) | (simp only [a_lower, aC, if_pos c_4, xs_self]; assumption) | (simp only [a_lower, if_pos c_4]; rw [aC_orN]; refine jk_eq ?_; rw [ex1]; done) | (simp only [a_lower, aC, if_pos c_4, xs_self]; refine jk_eq ?_; rw [ex1]; done)), by rw [ht]; exact hI⟩, hS.F ht⟩) hS.2.2 dX0_lower_32
  · skip
    obtain ⟨j, hj, ei⟩ := inI_to (b := 5) rfl (by decide) c_4
    have ei2 : i.toNatClampNeg = j := by rw [ei, nI_clamp (by omega)]
    subst ei
    refine lv_aload_n hx hb dX0_lower_7 rfl (lv_at hl 0 rfl) ?_
    refine lv_aload_n hx hb dX0_lower_8 rfl (lv_at hl 0 rfl) ?_
    refine lv_aload_n hx hb dX0_lower_9 rfl (lv_at hl 0 rfl) ?_
    refine r_get (C := RX0) (T := TX0) (N := 11) hx hb hts in_X0 hown hK hI (cf_main) rfl 3 (by decide) (hts _ q401) (fun _ h => h) rfl dX0_lower_10 ?_
    refine r_getN (C := RX4) (T := TX4) (N := 7) hx hb hts in_X4 hown hK hI (cf_W (w := 0) (by decide)) rfl 0 (by decide) (nf_2 hK) (fun _ h => h) rfl dX0_lower_13 ?_
    refine lv_iload_n hx hb dX0_lower_16 rfl (lv_at hl 1 rfl) ?_
    refine n_iald (k := j) hx hb hK hI (cf_list (w := 0) (by decide)) (rfl) (by omega) (by decide) dX0_lower_17 ?_
    refine c_r (k_V (As := [.int (x.1 0 0 j)]) (rest := [.ref (L 44)]) F (k_X0_greatestUnheard x (hO) (x.1 0 0 j)) (cwV 1 hts (lw_V q846 q848 qs19 q91 q849) rfl rfl rfl (by decide +kernel) ⟨Nat.le_of_ble_eq_true rfl, Nat.le_of_ble_eq_true rfl⟩) hI hK (hw.recv hI hK (cf_main) rfl) rfl hl.1 rfl (Nat.le_of_ble_eq_true rfl) dX0_lower_18 ⟨Nat.le_of_ble_eq_true rfl, Nat.le_of_ble_eq_true rfl⟩) ?_
    refine c_m (k_V (As := [.int (guI (x.1 0) (x.1 0 0 j))]) (rest := []) F (k_X0_orNone x (guI (x.1 0) (x.1 0 0 j))) (cwV 1 hts (lw_V q794 q796 qs13 q91 q797) rfl rfl rfl (by decide +kernel) ⟨Nat.le_of_ble_eq_true rfl, Nat.le_of_ble_eq_true rfl⟩) hI hK (hw.recv hI hK (cf_main) rfl) rfl hl.1 rfl (Nat.le_of_ble_eq_true rfl) dX0_lower_21 ⟨Nat.le_of_ble_eq_true rfl, Nat.le_of_ble_eq_true rfl⟩) hS (fun H1 locs1 hI hS => ?_)
    obtain ⟨x2, ex2⟩ : ∃ z, z = orC x (guI (x.1 0) (x.1 0 0 j)) := ⟨_, rfl⟩
    rw [← ex2] at hI
    refine lv_goto (tgt := 32) hx hb dX0_lower_24 (by decide) ?_
    exact W.iret hx hb hr (fun t ht _ => ⟨rI (by first | (simp only [a_lower, aR, if_neg c_4, ei2]; done) | (simp only [a_lower, aR_orN, if_neg c_4, ei2]; done) | (simp [a_lower, aR, c_4, ei2]; done)), ⟨x2, (by first | (simp only [a_lower, if_neg c_4, ei2]; rw [aC_orN, ex2]; exact jk_orC (by assumption) _) | (simp only [a_lower, aC, if_neg c_4, ei2, xs_self]; rw [ex2]; exact jk_a _ _) | (simp only [a_lower, if_neg c_4, ei2]; rw [aC_orN, ex2]; exact jk_orC (by first | exact jk_rfl | assumption) _) | (simp only [a_lower, aC, if_neg c_4, ei2, xs_self]; assumption) | (simp only [a_lower, if_neg c_4, ei2]; rw [aC_orN]; refine jk_eq ?_; rw [ex2]; done) | (simp only [a_lower, aC, if_neg c_4, ei2, xs_self]; refine jk_eq ?_; rw [ex2]; done)), by rw [ht]; exact hI⟩, hS.F ht⟩) hS.2.2 dX0_lower_32
theorem k_X0_image {l : Launch} {D : va_G} {L : Nat → Nat} {A : Nat → Prop} (x : cst) : Met l yX0_image (ws_ yX0_image cX0_image 1 (some .int)) ({ frames := 3, cells := 0, slots := 0, locals := 83 } : Room) (va_Pc [.ref (L 44)] (pI D (cfC D L x) A)) (nQ D (cfC D L (xr (xs x 1 (x.1 0)) 0 1 1)) A (some (.int 1))) 0 0 A := by
  refine met_I (by decide) rfl (Nat.le_of_ble_eq_true rfl) ?_
  intro p e s m below meth c ls hx hb hr hml hown hts hlocks hl hI hK
  have F : CallFix p m c cX0_image 1 s _ lw_all RX0 := ⟨hx, hb, hml, hown, hts⟩
  have hl : lv_has ls 1 [(0, .ref (L 44))] := hl
  have hS : va_S A s.heap s.heap [] := va_S.rf
  refine lv_aload_n hx hb dX0_image_0 rfl (lv_at hl 0 rfl) ?_
  refine r_get (C := RX0) (T := TX0) (N := 11) hx hb hts in_X0 hown hK hI (cf_main) rfl 4 (by decide) (hts _ q402) (fun _ h => h) rfl dX0_image_1 ?_
  refine lv_aload_n hx hb dX0_image_4 rfl (lv_at hl 0 rfl) ?_
  refine r_get (C := RX0) (T := TX0) (N := 11) hx hb hts in_X0 hown hK hI (cf_main) rfl 3 (by decide) (hts _ q401) (fun _ h => h) rfl dX0_image_5 ?_
  refine c_m (k_V (As := [.ref (L (11 * 0))]) (rest := []) F (k_X4_become x 1 (by decide) 0 (by decide) (by decide)) (cwV 1 hts (lw_V q776 q777 q778 q98 q779) rfl rfl rfl (by decide +kernel) ⟨Nat.le_of_ble_eq_true rfl, Nat.le_of_ble_eq_true rfl⟩) hI hK (hw.recv hI hK (cf_W (w := 1) (by decide)) rfl) rfl hl.1 rfl (Nat.le_of_ble_eq_true rfl) dX0_image_8 ⟨Nat.le_of_ble_eq_true rfl, Nat.le_of_ble_eq_true rfl⟩) hS (fun H1 locs1 hI hS => ?_)
  obtain ⟨x1, ex1⟩ : ∃ z, z = xs x 1 (x.1 0) := ⟨_, rfl⟩
  rw [← ex1] at hI
  refine lv_aload_n hx hb dX0_image_11 rfl (lv_at hl 0 rfl) ?_
  refine lv_iconst (v := 1) hx hb dX0_image_12 (by decide) ?_
  obtain ⟨x2, ex2⟩ : ∃ z, z = xr x1 0 1 1 := ⟨_, rfl⟩
  refine r_put (C := RX0) (T := TX0) (N := 11) (cf' := cfC D L x2) hx hb hts in_X0 tyX0 tyX0_ok nmX0 hown hK hI hS (cf_main) rfl 6 (by decide) (hts _ q404) (fun _ h => h) rfl (ty := .boolean) (by decide +kernel) (by decide) rfl (Nat.le_of_ble_eq_true rfl) (by rw [ex2]; exact cs_main rfl) dX0_image_13 (fun H1 locs1 hI hS => ?_)
  refine lv_iconst (v := 1) hx hb dX0_image_16 (by decide) ?_
  exact W.iret hx hb hr (fun t ht _ => ⟨rI (rfl), by rw [ht]; exact hw_eq hI (congrArg (cfC D L) (by rw [ex2, ex1])), hS.F ht⟩) hS.2.2 dX0_image_17
theorem k_X0_undo {l : Launch} {D : va_G} {L : Nat → Nat} {A : Nat → Prop} (x : cst) : Met l yX0_undo (ws_ yX0_undo cX0_undo 1 (some .int)) ({ frames := 3, cells := 0, slots := 0, locals := 83 } : Room) (va_Pc [.ref (L 44)] (pI D (cfC D L x) A)) (nQ D (cfC D L (if x.2.1 0 1 = 0 then fnd x 3 else xs x 0 (x.1 1))) A (some (.int (if x.2.1 0 1 = 0 then -1000001 - nI 3 else x.1 1 1 2)))) 0 0 A := by
  refine met_I (by decide) rfl (Nat.le_of_ble_eq_true rfl) ?_
  intro p e s m below meth c ls hx hb hr hml hown hts hlocks hl hI hK
  have F : CallFix p m c cX0_undo 1 s _ lw_all RX0 := ⟨hx, hb, hml, hown, hts⟩
  have hl : lv_has ls 1 [(0, .ref (L 44))] := hl
  have hS : va_S A s.heap s.heap [] := va_S.rf
  refine lv_aload_n hx hb dX0_undo_0 rfl (lv_at hl 0 rfl) ?_
  refine r_get (C := RX0) (T := TX0) (N := 11) hx hb hts in_X0 hown hK hI (cf_main) rfl 6 (by decide) (hts _ q404) (fun _ h => h) rfl dX0_undo_1 ?_
  refine lv_if_ne (tgt := 13) hx hb dX0_undo_4 (by decide) (fun c_4 => ?_) (fun c_4 => ?_)
  · skip
    refine lv_aload_n hx hb dX0_undo_13 rfl (lv_at hl 0 rfl) ?_
    refine r_get (C := RX0) (T := TX0) (N := 11) hx hb hts in_X0 hown hK hI (cf_main) rfl 3 (by decide) (hts _ q401) (fun _ h => h) rfl dX0_undo_14 ?_
    refine lv_aload_n hx hb dX0_undo_17 rfl (lv_at hl 0 rfl) ?_
    refine r_get (C := RX0) (T := TX0) (N := 11) hx hb hts in_X0 hown hK hI (cf_main) rfl 4 (by decide) (hts _ q402) (fun _ h => h) rfl dX0_undo_18 ?_
    refine c_m (k_V (As := [.ref (L (11 * 1))]) (rest := []) F (k_X4_become x 0 (by decide) 1 (by decide) (by decide)) (cwV 1 hts (lw_V q776 q777 q778 q98 q779) rfl rfl rfl (by decide +kernel) ⟨Nat.le_of_ble_eq_true rfl, Nat.le_of_ble_eq_true rfl⟩) hI hK (hw.recv hI hK (cf_W (w := 0) (by decide)) rfl) rfl hl.1 rfl (Nat.le_of_ble_eq_true rfl) dX0_undo_21 ⟨Nat.le_of_ble_eq_true rfl, Nat.le_of_ble_eq_true rfl⟩) hS (fun H1 locs1 hI hS => ?_)
    obtain ⟨x1, ex1⟩ : ∃ z, z = xs x 0 (x.1 1) := ⟨_, rfl⟩
    rw [← ex1] at hI
    refine lv_aload_n hx hb dX0_undo_24 rfl (lv_at hl 0 rfl) ?_
    refine r_get (C := RX0) (T := TX0) (N := 11) hx hb hts in_X0 hown hK hI (cf_main) rfl 3 (by decide) (hts _ q401) (fun _ h => h) rfl dX0_undo_25 ?_
    refine r_getN (C := RX4) (T := TX4) (N := 7) hx hb hts in_X4 hown hK hI (cf_W (w := 0) (by decide)) rfl 4 (by decide) (nf_9 hK) (fun _ h => h) rfl dX0_undo_28 ?_
    exact W.iret hx hb hr (fun t ht _ => ⟨rI (by first | (simp only [if_neg c_4]; done) | (rw [ex1, xs_at]; simp only [if_neg c_4]; done)), by rw [ht]; exact hw_eq hI (congrArg (cfC D L) (by rw [ex1]; simp only [if_neg c_4])), hS.F ht⟩) hS.2.2 dX0_undo_31
  · skip
    refine lv_aload_n hx hb dX0_undo_7 rfl (lv_at hl 0 rfl) ?_
    refine lv_iconst (v := 3) hx hb dX0_undo_8 (by decide) ?_
    refine c_m (k_V (As := [.int 3]) (rest := []) F (k_X0_finding x 3 (by decide)) (cwV 1 hts (lw_V q457 q459 qs2 q91 q460) rfl rfl rfl (by decide +kernel) ⟨Nat.le_of_ble_eq_true rfl, Nat.le_of_ble_eq_true rfl⟩) hI hK (hw.recv hI hK (cf_main) rfl) rfl hl.1 rfl (Nat.le_of_ble_eq_true rfl) dX0_undo_9 ⟨Nat.le_of_ble_eq_true rfl, Nat.le_of_ble_eq_true rfl⟩) hS (fun H1 locs1 hI hS => ?_)
    obtain ⟨x2, ex2⟩ : ∃ z, z = (fnd x 3) := ⟨_, rfl⟩
    rw [← ex2] at hI
    exact W.iret hx hb hr (fun t ht _ => ⟨rI (by first | (simp only [if_pos c_4]; done) | (rw [ex2, xs_at]; simp only [if_pos c_4]; done)), by rw [ht]; exact hw_eq hI (congrArg (cfC D L) (by rw [ex2]; simp only [if_pos c_4])), hS.F ht⟩) hS.2.2 dX0_undo_12
theorem k_X0_tear {l : Launch} {D : va_G} {L : Nat → Nat} {A : Nat → Prop} (x : cst) : Met l yX0_tear (ws_ yX0_tear cX0_tear 2 (some .int)) ({ frames := 0, cells := 0, slots := 0, locals := 0 } : Room) (va_Pc [.ref (L 44)] (pI D (cfC D L x) A)) (nQ D (cfC D L (xr x 0 1 0)) A (some (.int (if x.2.1 0 1 = 0 then 0 else 1)))) 0 0 A := by
  refine met_I (by decide) rfl (Nat.le_of_ble_eq_true rfl) ?_
  intro p e s m below meth c ls hx hb hr hml hown hts hlocks hl hI hK
  have F : CallFix p m c cX0_tear 2 s _ lw_all RX0 := ⟨hx, hb, hml, hown, hts⟩
  have hl : lv_has ls 2 [(0, .ref (L 44))] := hl
  have hS : va_S A s.heap s.heap [] := va_S.rf
  refine lv_aload_n hx hb dX0_tear_0 rfl (lv_at hl 0 rfl) ?_
  refine r_get (C := RX0) (T := TX0) (N := 11) hx hb hts in_X0 hown hK hI (cf_main) rfl 6 (by decide) (hts _ q404) (fun _ h => h) rfl dX0_tear_1 ?_
  refine lv_if_eq (tgt := 11) hx hb dX0_tear_4 (by decide) (fun c_4 => ?_) (fun c_4 => ?_)
  · skip
    refine lv_iconst (v := 0) hx hb dX0_tear_11 (by decide) ?_
    refine lv_istore_n (lv' := [(1, .int 0), (0, .ref (L 44))]) hx hb dX0_tear_12 rfl hl (by decide) rfl (fun ls hl => ?_)
    refine lv_aload_n hx hb dX0_tear_13 rfl (lv_at hl 1 rfl) ?_
    refine lv_iconst (v := 0) hx hb dX0_tear_14 (by decide) ?_
    obtain ⟨x1, ex1⟩ : ∃ z, z = xr x 0 1 0 := ⟨_, rfl⟩
    refine r_put (C := RX0) (T := TX0) (N := 11) (cf' := cfC D L x1) hx hb hts in_X0 tyX0 tyX0_ok nmX0 hown hK hI hS (cf_main) rfl 6 (by decide) (hts _ q404) (fun _ h => h) rfl (ty := .boolean) (by decide +kernel) (by decide) rfl (Nat.le_of_ble_eq_true rfl) (by rw [ex1]; exact cs_main rfl) dX0_tear_15 (fun H1 locs1 hI hS => ?_)
    refine lv_iload_n hx hb dX0_tear_18 rfl (lv_at hl 0 rfl) ?_
    exact W.iret hx hb hr (fun t ht _ => ⟨rI (by simp only [if_pos c_4]), by rw [ht]; exact hw_eq hI (congrArg (cfC D L) (by rw [ex1])), hS.F ht⟩) hS.2.2 dX0_tear_19
  · skip
    refine lv_iconst (v := 1) hx hb dX0_tear_7 (by decide) ?_
    refine lv_goto (tgt := 12) hx hb dX0_tear_8 (by decide) ?_
    refine lv_istore_n (lv' := [(1, .int 1), (0, .ref (L 44))]) hx hb dX0_tear_12 rfl hl (by decide) rfl (fun ls hl => ?_)
    refine lv_aload_n hx hb dX0_tear_13 rfl (lv_at hl 1 rfl) ?_
    refine lv_iconst (v := 0) hx hb dX0_tear_14 (by decide) ?_
    obtain ⟨x2, ex2⟩ : ∃ z, z = xr x 0 1 0 := ⟨_, rfl⟩
    refine r_put (C := RX0) (T := TX0) (N := 11) (cf' := cfC D L x2) hx hb hts in_X0 tyX0 tyX0_ok nmX0 hown hK hI hS (cf_main) rfl 6 (by decide) (hts _ q404) (fun _ h => h) rfl (ty := .boolean) (by decide +kernel) (by decide) rfl (Nat.le_of_ble_eq_true rfl) (by rw [ex2]; exact cs_main rfl) dX0_tear_15 (fun H1 locs1 hI hS => ?_)
    refine lv_iload_n hx hb dX0_tear_18 rfl (lv_at hl 0 rfl) ?_
    exact W.iret hx hb hr (fun t ht _ => ⟨rI (by simp only [if_neg c_4]), by rw [ht]; exact hw_eq hI (congrArg (cfC D L) (by rw [ex2])), hS.F ht⟩) hS.2.2 dX0_tear_19
theorem k_X0_wipe {l : Launch} {D : va_G} {L : Nat → Nat} {A : Nat → Prop} (x : cst) : Met l yX0_wipe (ws_ yX0_wipe cX0_wipe 2 (some .int)) ({ frames := 0, cells := 0, slots := 0, locals := 0 } : Room) (va_Pc [.ref (L 44)] (pI D (cfC D L x) A)) (nQ D (cfC D L (xr x 0 0 0)) A (some (.int (x.2.1 0 0)))) 0 0 A := by
  refine met_I (by decide) rfl (Nat.le_of_ble_eq_true rfl) ?_
  intro p e s m below meth c ls hx hb hr hml hown hts hlocks hl hI hK
  have F : CallFix p m c cX0_wipe 2 s _ lw_all RX0 := ⟨hx, hb, hml, hown, hts⟩
  have hl : lv_has ls 2 [(0, .ref (L 44))] := hl
  have hS : va_S A s.heap s.heap [] := va_S.rf
  refine lv_aload_n hx hb dX0_wipe_0 rfl (lv_at hl 0 rfl) ?_
  refine r_get (C := RX0) (T := TX0) (N := 11) hx hb hts in_X0 hown hK hI (cf_main) rfl 2 (by decide) (hts _ q398) (fun _ h => h) rfl dX0_wipe_1 ?_
  refine lv_istore_n (lv' := [(1, .int (x.2.1 0 0)), (0, .ref (L 44))]) hx hb dX0_wipe_4 rfl hl (by decide) rfl (fun ls hl => ?_)
  refine lv_aload_n hx hb dX0_wipe_5 rfl (lv_at hl 1 rfl) ?_
  refine lv_iconst (v := 0) hx hb dX0_wipe_6 (by decide) ?_
  obtain ⟨x1, ex1⟩ : ∃ z, z = xr x 0 0 0 := ⟨_, rfl⟩
  refine r_put (C := RX0) (T := TX0) (N := 11) (cf' := cfC D L x1) hx hb hts in_X0 tyX0 tyX0_ok nmX0 hown hK hI hS (cf_main) rfl 2 (by decide) (hts _ q398) (fun _ h => h) rfl (ty := .int) (by decide +kernel) rfl rfl (Nat.le_of_ble_eq_true rfl) (by rw [ex1]; exact cs_main rfl) dX0_wipe_7 (fun H1 locs1 hI hS => ?_)
  refine lv_iload_n hx hb dX0_wipe_10 rfl (lv_at hl 0 rfl) ?_
  exact W.iret hx hb hr (fun t ht _ => ⟨rI (rfl), by rw [ht]; exact hw_eq hI (congrArg (cfC D L) (by rw [ex1])), hS.F ht⟩) hS.2.2 dX0_wipe_11
theorem k_X0_holding {l : Launch} {D : va_G} {L : Nat → Nat} {A : Nat → Prop} (x : cst) : Met l yX0_holding (ws_ yX0_holding cX0_holding 6 (some .int)) ({ frames := 0, cells := 0, slots := 0, locals := 0 } : Room) (va_Pc [.ref (L 44)] (pI D (cfC D L x) A)) (rQ (.int (hoI (x.1 0)))) 0 0 nof := by
  refine met_I (by decide) rfl (Nat.le_of_ble_eq_true rfl) ?_
  intro p e s m below meth c ls hx hb hr hml hown hts hlocks hl hI hK
  have F : CallFix p m c cX0_holding 6 s _ lw_all RX0 := ⟨hx, hb, hml, hown, hts⟩
  have hl : lv_has ls 6 [(0, .ref (L 44))] := hl
  refine lv_iconst (v := 0) hx hb dX0_holding_0 (by decide) ?_
  refine lv_istore_n (lv' := [(1, .int 0), (0, .ref (L 44))]) hx hb dX0_holding_1 rfl hl (by decide) rfl (fun ls hl => ?_)
  refine lv_aload_n hx hb dX0_holding_2 rfl (lv_at hl 1 rfl) ?_
  refine r_get (C := RX0) (T := TX0) (N := 11) hx hb hts in_X0 hown hK hI (cf_main) rfl 3 (by decide) (hts _ q401) (fun _ h => h) rfl dX0_holding_3 ?_
  refine r_getN (C := RX4) (T := TX4) (N := 7) hx hb hts in_X4 hown hK hI (cf_W (w := 0) (by decide)) rfl 6 (by decide) (nf_11 hK) (fun _ h => h) rfl dX0_holding_6 ?_
  refine lv_astore_n (lv' := [(2, .ref (L (11 * 0 + 10))), (1, .int 0), (0, .ref (L 44))]) hx hb dX0_holding_9 rfl hl (by decide) rfl (fun ls hl => ?_)
  refine lv_aload_n hx hb dX0_holding_10 rfl (lv_at hl 0 rfl) ?_
  refine r_alen (v := 10) hx hb hK hI (cf_holds (w := 0) (by decide)) 0 rfl (rfl) dX0_holding_11 ?_
  refine lv_istore_n (lv' := [(3, .int 10), (2, .ref (L (11 * 0 + 10))), (1, .int 0), (0, .ref (L 44))]) hx hb dX0_holding_12 rfl hl (by decide) rfl (fun ls hl => ?_)
  refine lv_iconst (v := 0) hx hb dX0_holding_13 (by decide) ?_
  refine lv_istore (lv' := [(4, .int 0), (3, .int 10), (2, .ref (L (11 * 0 + 10))), (1, .int 0), (0, .ref (L 44))]) hx hb dX0_holding_14 hl (by decide) rfl (fun ls hl => ?_)
  have lp16 : ∀ (fuel : Nat) (i : Nat), (i ≤ 10) → 10 - i < fuel → ∀ (v1 : Int32) (v4 : Int32), v1 = (itr (hoS (x.1 0)) 0 i) → v4 = nI i → ∀ (ls : Array Slot), lv_has ls 6 [(0, .ref (L 44)), (1, .int v1), (2, .ref (L (11 * 0 + 10))), (3, .int 10), (4, .int v4)] → W p l e ({ frames := 0, cells := 0, slots := 0, locals := 0 } : Room) s m ([.ref (L 44)] : List Value).toArray below meth c s.heap [] 0 0 (MQ below (rQ (.int (hoI (x.1 0)))) ([.ref (L 44)] : List Value).toArray s 0 0 nof) (F0 m 16 ls []) := by
    intro fuel
    induction fuel with
    | zero => intro i hi hf; exact absurd hf (Nat.not_lt_zero _)
    | succ fuel ih16 =>
      intro i hi hf16 v1 v4 e1 e4  ls hl
      subst e1 e4
      refine lv_iload hx hb dX0_holding_16 (lv_at hl 4 rfl) ?_
      refine lv_iload_n hx hb dX0_holding_18 rfl (lv_at hl 3 rfl) ?_
      refine lv_icmp_ge (tgt := 48) hx hb dX0_holding_19 (by decide) (fun c_19 => ?_) (fun c_19 => ?_)
      · skip
        have c_19 : 10 ≤ i := (nle (a := 10) (b := i) (rfl) (rfl) (by omega) (by omega)).mp c_19
        refine lv_iload_n hx hb dX0_holding_48 rfl (lv_at hl 1 rfl) ?_
        exact W.iret hx hb hr (fun t ht _ => ⟨rI (by rw [hoI, show i = 10 by omega]), ht⟩) (fun q h => by cases h) dX0_holding_49
      · skip
        have c_19 : ¬ 10 ≤ i := fun z => c_19 ((nle (a := 10) (b := i) (rfl) (rfl) (by omega) (by omega)).mpr z)
        refine lv_aload_n hx hb dX0_holding_22 rfl (lv_at hl 2 rfl) ?_
        refine lv_iload hx hb dX0_holding_23 (lv_at hl 4 rfl) ?_
        refine n_iald (k := i) hx hb hK hI (cf_holds (w := 0) (by decide)) (rfl) (by omega) (by decide) dX0_holding_25 ?_
        refine lv_istore (lv' := [(5, .int (x.1 0 9 i)), (0, .ref (L 44)), (1, .int (itr (hoS (x.1 0)) 0 i)), (2, .ref (L (11 * 0 + 10))), (3, .int 10), (4, .int (nI i))]) hx hb dX0_holding_26 hl (by decide) rfl (fun ls hl => ?_)
        refine lv_iload_n hx hb dX0_holding_28 rfl (lv_at hl 2 rfl) ?_
        refine lv_iload hx hb dX0_holding_29 (lv_at hl 0 rfl) ?_
        refine lv_iconst (v := (-1)) hx hb dX0_holding_31 (by decide) ?_
        refine lv_icmp_ne (tgt := 39) hx hb dX0_holding_32 (by decide) (fun c_32 => ?_) (fun c_32 => ?_)
        · skip
          refine lv_iconst (v := 1) hx hb dX0_holding_39 (by decide) ?_
          refine lv_iadd hx hb dX0_holding_40 ?_
          refine lv_istore_n (lv' := [(1, .int ((itr (hoS (x.1 0)) 0 i) + (1 : Int32))), (5, .int (x.1 0 9 i)), (0, .ref (L 44)), (2, .ref (L (11 * 0 + 10))), (3, .int 10), (4, .int (nI i))]) hx hb dX0_holding_41 rfl hl (by decide) rfl (fun ls hl => ?_)
          refine lv_iinc (v := (nI (i + 1))) (lv' := [(4, .int (nI (i + 1))), (1, .int ((itr (hoS (x.1 0)) 0 i) + (1 : Int32))), (5, .int (x.1 0 9 i)), (0, .ref (L 44)), (2, .ref (L (11 * 0 + 10))), (3, .int 10)]) hx hb dX0_holding_42 hl (k := 5) rfl (nI_1 _) (by decide) rfl (fun ls hl => ?_)
          refine lv_goto (tgt := 16) hx hb dX0_holding_45 (by decide) ?_
          exact ih16 (i + 1) (by omega) (by omega) ((itr (hoS (x.1 0)) 0 i) + (1 : Int32)) (nI (i + 1)) (by simp only [itr_s, hoS, if_neg c_19, if_neg c_32]) (rfl) ls (lv_sub hl [3, 1, 4, 5, 0] rfl)
        · skip
          refine lv_iconst (v := 0) hx hb dX0_holding_35 (by decide) ?_
          refine lv_goto (tgt := 40) hx hb dX0_holding_36 (by decide) ?_
          refine lv_iadd hx hb dX0_holding_40 ?_
          refine lv_istore_n (lv' := [(1, .int ((itr (hoS (x.1 0)) 0 i) + (0 : Int32))), (5, .int (x.1 0 9 i)), (0, .ref (L 44)), (2, .ref (L (11 * 0 + 10))), (3, .int 10), (4, .int (nI i))]) hx hb dX0_holding_41 rfl hl (by decide) rfl (fun ls hl => ?_)
          refine lv_iinc (v := (nI (i + 1))) (lv' := [(4, .int (nI (i + 1))), (1, .int ((itr (hoS (x.1 0)) 0 i) + (0 : Int32))), (5, .int (x.1 0 9 i)), (0, .ref (L 44)), (2, .ref (L (11 * 0 + 10))), (3, .int 10)]) hx hb dX0_holding_42 hl (k := 5) rfl (nI_1 _) (by decide) rfl (fun ls hl => ?_)
          refine lv_goto (tgt := 16) hx hb dX0_holding_45 (by decide) ?_
          exact ih16 (i + 1) (by omega) (by omega) ((itr (hoS (x.1 0)) 0 i) + (0 : Int32)) (nI (i + 1)) (by simp only [itr_s, hoS, if_neg c_19, if_pos c_32]) (rfl) ls (lv_sub hl [3, 1, 4, 5, 0] rfl)
  exact lp16 (_ + 1) (0) (Nat.zero_le _) (Nat.lt_succ_self _) 0 0 (rfl) (rfl) ls (lv_sub hl [4, 3, 2, 1, 0] rfl)
theorem k_X0_count {l : Launch} {D : va_G} {L : Nat → Nat} {A : Nat → Prop} (x : cst) (hO : wOk (x.1 0)) (w : Int32) : Met l yX0_count (ws_ yX0_count cX0_count 2 (some .int)) ({ frames := 2, cells := 0, slots := 0, locals := 45 } : Room) (va_Pc [.ref (L 44), .int w] (pI D (cfC D L x) A)) (nQ D (cfC D L (aC x (a_count (x.1 0) (x.2.1 0 0) w))) A (some (.int (aR (a_count (x.1 0) (x.2.1 0 0) w))))) 0 0 A := by
  refine met_I (by decide) rfl (Nat.le_of_ble_eq_true rfl) ?_
  intro p e s m below meth c ls hx hb hr hml hown hts hlocks hl hI hK
  have F : CallFix p m c cX0_count 2 s _ lw_all RX0 := ⟨hx, hb, hml, hown, hts⟩
  have hl : lv_has ls 2 [(0, .ref (L 44)), (1, .int w)] := hl
  have hS : va_S A s.heap s.heap [] := va_S.rf
  refine lv_iload_n hx hb dX0_count_0 rfl (lv_at hl 1 rfl) ?_
  by_cases c_1_0 : w = 0
  · skip
    refine lv_tableIn (off := 47) (tgt := 48) hx hb dX0_count_1 (by rw [c_1_0]; decide) (by rw [c_1_0]; decide) (by rw [c_1_0]; rfl) (by decide) ?_
    refine lv_aload_n hx hb dX0_count_48 rfl (lv_at hl 0 rfl) ?_
    refine r_get (C := RX0) (T := TX0) (N := 11) hx hb hts in_X0 hown hK hI (cf_main) rfl 3 (by decide) (hts _ q401) (fun _ h => h) rfl dX0_count_49 ?_
    refine r_getN (C := RX4) (T := TX4) (N := 7) hx hb hts in_X4 hown hK hI (cf_W (w := 0) (by decide)) rfl 4 (by decide) (nf_9 hK) (fun _ h => h) rfl dX0_count_52 ?_
    exact W.iret hx hb hr (fun t ht _ => ⟨rI (by first | (simp only [a_count, aR, if_pos c_1_0]; done) | (simp [a_count, aR, c_1_0]; done)), by rw [ht]; exact hw_eq hI (congrArg (cfC D L) (by first | (rw []; simp only [a_count, aC, if_pos c_1_0]; done) | (simp only [a_count, aC, xs_self, if_pos c_1_0]; done) | (rw []; simp [a_count, aC, c_1_0]; done) | (simp [a_count, aC, c_1_0, xs_self]; done))), hS.F ht⟩) hS.2.2 dX0_count_55
  by_cases c_1_1 : w = 1
  · skip
    refine lv_tableIn (off := 55) (tgt := 56) hx hb dX0_count_1 (by rw [c_1_1]; decide) (by rw [c_1_1]; decide) (by rw [c_1_1]; rfl) (by decide) ?_
    refine lv_aload_n hx hb dX0_count_56 rfl (lv_at hl 0 rfl) ?_
    refine r_get (C := RX0) (T := TX0) (N := 11) hx hb hts in_X0 hown hK hI (cf_main) rfl 3 (by decide) (hts _ q401) (fun _ h => h) rfl dX0_count_57 ?_
    refine r_getN (C := RX4) (T := TX4) (N := 7) hx hb hts in_X4 hown hK hI (cf_W (w := 0) (by decide)) rfl 1 (by decide) (nf_4 hK) (fun _ h => h) rfl dX0_count_60 ?_
    exact W.iret hx hb hr (fun t ht _ => ⟨rI (by first | (simp only [a_count, aR, if_neg c_1_0, if_pos c_1_1]; done) | (simp [a_count, aR, c_1_0, c_1_1]; done)), by rw [ht]; exact hw_eq hI (congrArg (cfC D L) (by first | (rw []; simp only [a_count, aC, if_neg c_1_0, if_pos c_1_1]; done) | (simp only [a_count, aC, xs_self, if_neg c_1_0, if_pos c_1_1]; done) | (rw []; simp [a_count, aC, c_1_0, c_1_1]; done) | (simp [a_count, aC, c_1_0, c_1_1, xs_self]; done))), hS.F ht⟩) hS.2.2 dX0_count_63
  by_cases c_1_2 : w = 2
  · skip
    refine lv_tableIn (off := 63) (tgt := 64) hx hb dX0_count_1 (by rw [c_1_2]; decide) (by rw [c_1_2]; decide) (by rw [c_1_2]; rfl) (by decide) ?_
    refine lv_aload_n hx hb dX0_count_64 rfl (lv_at hl 0 rfl) ?_
    refine r_get (C := RX0) (T := TX0) (N := 11) hx hb hts in_X0 hown hK hI (cf_main) rfl 3 (by decide) (hts _ q401) (fun _ h => h) rfl dX0_count_65 ?_
    refine lv_iconst (v := 3) hx hb dX0_count_68 (by decide) ?_
    refine lv_aload_n hx hb dX0_count_69 rfl (lv_at hl 0 rfl) ?_
    refine r_get (C := RX0) (T := TX0) (N := 11) hx hb hts in_X0 hown hK hI (cf_main) rfl 3 (by decide) (hts _ q401) (fun _ h => h) rfl dX0_count_70 ?_
    refine c_r (k_V (As := []) (rest := [.int 3, .ref (L (11 * 0))]) F (k_X4_all x 0 (by decide) (hO)) (cwV 0 hts (lw_V q747 q748 q749 q98 q750) rfl rfl rfl (by decide +kernel) ⟨Nat.le_of_ble_eq_true rfl, Nat.le_of_ble_eq_true rfl⟩) hI hK (hw.recv hI hK (cf_W (w := 0) (by decide)) rfl) rfl hl.1 rfl (Nat.le_of_ble_eq_true rfl) dX0_count_73 ⟨Nat.le_of_ble_eq_true rfl, Nat.le_of_ble_eq_true rfl⟩) ?_
    refine c_r (k_V (As := [.int 3, .int (allI (x.1 0))]) (rest := []) F (k_X4_known x 0 (by decide) (hO) 3 (allI (x.1 0)) (by decide)) (cwV 2 hts (lw_V q518 q519 q520 q98 q521) rfl rfl rfl (by decide +kernel) ⟨Nat.le_of_ble_eq_true rfl, Nat.le_of_ble_eq_true rfl⟩) hI hK (hw.recv hI hK (cf_W (w := 0) (by decide)) rfl) rfl hl.1 rfl (Nat.le_of_ble_eq_true rfl) dX0_count_76 ⟨Nat.le_of_ble_eq_true rfl, Nat.le_of_ble_eq_true rfl⟩) ?_
    refine c_r (k_S (As := [.int (knI (x.1 0) 3 (allI (x.1 0)))]) (rest := []) F (k_X0_ones (knI (x.1 0) 3 (allI (x.1 0)))) (va_cwS 1 hts (lw_S q809 q734 q91 q735) rfl rfl rfl (by decide +kernel) ⟨Nat.le_of_ble_eq_true rfl, Nat.le_of_ble_eq_true rfl⟩) rfl hl.1 rfl (Nat.le_of_ble_eq_true rfl) dX0_count_79 ⟨Nat.le_of_ble_eq_true rfl, Nat.le_of_ble_eq_true rfl⟩) ?_
    exact W.iret hx hb hr (fun t ht _ => ⟨rI (by first | (simp only [a_count, aR, if_neg c_1_0, if_neg c_1_1, if_pos c_1_2]; done) | (simp [a_count, aR, c_1_0, c_1_1, c_1_2]; done)), by rw [ht]; exact hw_eq hI (congrArg (cfC D L) (by first | (rw []; simp only [a_count, aC, if_neg c_1_0, if_neg c_1_1, if_pos c_1_2]; done) | (simp only [a_count, aC, xs_self, if_neg c_1_0, if_neg c_1_1, if_pos c_1_2]; done) | (rw []; simp [a_count, aC, c_1_0, c_1_1, c_1_2]; done) | (simp [a_count, aC, c_1_0, c_1_1, c_1_2, xs_self]; done))), hS.F ht⟩) hS.2.2 dX0_count_82
  by_cases c_1_3 : w = 3
  · skip
    refine lv_tableIn (off := 82) (tgt := 83) hx hb dX0_count_1 (by rw [c_1_3]; decide) (by rw [c_1_3]; decide) (by rw [c_1_3]; rfl) (by decide) ?_
    refine lv_aload_n hx hb dX0_count_83 rfl (lv_at hl 0 rfl) ?_
    refine r_get (C := RX0) (T := TX0) (N := 11) hx hb hts in_X0 hown hK hI (cf_main) rfl 3 (by decide) (hts _ q401) (fun _ h => h) rfl dX0_count_84 ?_
    refine lv_iconst (v := 5) hx hb dX0_count_87 (by decide) ?_
    refine lv_aload_n hx hb dX0_count_88 rfl (lv_at hl 0 rfl) ?_
    refine r_get (C := RX0) (T := TX0) (N := 11) hx hb hts in_X0 hown hK hI (cf_main) rfl 3 (by decide) (hts _ q401) (fun _ h => h) rfl dX0_count_89 ?_
    refine c_r (k_V (As := []) (rest := [.int 5, .ref (L (11 * 0))]) F (k_X4_all x 0 (by decide) (hO)) (cwV 0 hts (lw_V q747 q748 q749 q98 q750) rfl rfl rfl (by decide +kernel) ⟨Nat.le_of_ble_eq_true rfl, Nat.le_of_ble_eq_true rfl⟩) hI hK (hw.recv hI hK (cf_W (w := 0) (by decide)) rfl) rfl hl.1 rfl (Nat.le_of_ble_eq_true rfl) dX0_count_92 ⟨Nat.le_of_ble_eq_true rfl, Nat.le_of_ble_eq_true rfl⟩) ?_
    refine c_r (k_V (As := [.int 5, .int (allI (x.1 0))]) (rest := []) F (k_X4_known x 0 (by decide) (hO) 5 (allI (x.1 0)) (by decide)) (cwV 2 hts (lw_V q518 q519 q520 q98 q521) rfl rfl rfl (by decide +kernel) ⟨Nat.le_of_ble_eq_true rfl, Nat.le_of_ble_eq_true rfl⟩) hI hK (hw.recv hI hK (cf_W (w := 0) (by decide)) rfl) rfl hl.1 rfl (Nat.le_of_ble_eq_true rfl) dX0_count_95 ⟨Nat.le_of_ble_eq_true rfl, Nat.le_of_ble_eq_true rfl⟩) ?_
    refine c_r (k_S (As := [.int (knI (x.1 0) 5 (allI (x.1 0)))]) (rest := []) F (k_X0_ones (knI (x.1 0) 5 (allI (x.1 0)))) (va_cwS 1 hts (lw_S q809 q734 q91 q735) rfl rfl rfl (by decide +kernel) ⟨Nat.le_of_ble_eq_true rfl, Nat.le_of_ble_eq_true rfl⟩) rfl hl.1 rfl (Nat.le_of_ble_eq_true rfl) dX0_count_98 ⟨Nat.le_of_ble_eq_true rfl, Nat.le_of_ble_eq_true rfl⟩) ?_
    exact W.iret hx hb hr (fun t ht _ => ⟨rI (by first | (simp only [a_count, aR, if_neg c_1_0, if_neg c_1_1, if_neg c_1_2, if_pos c_1_3]; done) | (simp [a_count, aR, c_1_0, c_1_1, c_1_2, c_1_3]; done)), by rw [ht]; exact hw_eq hI (congrArg (cfC D L) (by first | (rw []; simp only [a_count, aC, if_neg c_1_0, if_neg c_1_1, if_neg c_1_2, if_pos c_1_3]; done) | (simp only [a_count, aC, xs_self, if_neg c_1_0, if_neg c_1_1, if_neg c_1_2, if_pos c_1_3]; done) | (rw []; simp [a_count, aC, c_1_0, c_1_1, c_1_2, c_1_3]; done) | (simp [a_count, aC, c_1_0, c_1_1, c_1_2, c_1_3, xs_self]; done))), hS.F ht⟩) hS.2.2 dX0_count_101
  by_cases c_1_4 : w = 4
  · skip
    refine lv_tableIn (off := 101) (tgt := 102) hx hb dX0_count_1 (by rw [c_1_4]; decide) (by rw [c_1_4]; decide) (by rw [c_1_4]; rfl) (by decide) ?_
    refine lv_aload_n hx hb dX0_count_102 rfl (lv_at hl 0 rfl) ?_
    refine r_get (C := RX0) (T := TX0) (N := 11) hx hb hts in_X0 hown hK hI (cf_main) rfl 3 (by decide) (hts _ q401) (fun _ h => h) rfl dX0_count_103 ?_
    refine c_r (k_V (As := []) (rest := []) F (k_X4_drawnInAll x 0 (by decide) (hO)) (cwV 0 hts (lw_V q760 q761 q762 q98 q763) rfl rfl rfl (by decide +kernel) ⟨Nat.le_of_ble_eq_true rfl, Nat.le_of_ble_eq_true rfl⟩) hI hK (hw.recv hI hK (cf_W (w := 0) (by decide)) rfl) rfl hl.1 rfl (Nat.le_of_ble_eq_true rfl) dX0_count_106 ⟨Nat.le_of_ble_eq_true rfl, Nat.le_of_ble_eq_true rfl⟩) ?_
    exact W.iret hx hb hr (fun t ht _ => ⟨rI (by first | (simp only [a_count, aR, if_neg c_1_0, if_neg c_1_1, if_neg c_1_2, if_neg c_1_3, if_pos c_1_4]; done) | (simp [a_count, aR, c_1_0, c_1_1, c_1_2, c_1_3, c_1_4]; done)), by rw [ht]; exact hw_eq hI (congrArg (cfC D L) (by first | (rw []; simp only [a_count, aC, if_neg c_1_0, if_neg c_1_1, if_neg c_1_2, if_neg c_1_3, if_pos c_1_4]; done) | (simp only [a_count, aC, xs_self, if_neg c_1_0, if_neg c_1_1, if_neg c_1_2, if_neg c_1_3, if_pos c_1_4]; done) | (rw []; simp [a_count, aC, c_1_0, c_1_1, c_1_2, c_1_3, c_1_4]; done) | (simp [a_count, aC, c_1_0, c_1_1, c_1_2, c_1_3, c_1_4, xs_self]; done))), hS.F ht⟩) hS.2.2 dX0_count_109
  by_cases c_1_5 : w = 5
  · skip
    refine lv_tableIn (off := 109) (tgt := 110) hx hb dX0_count_1 (by rw [c_1_5]; decide) (by rw [c_1_5]; decide) (by rw [c_1_5]; rfl) (by decide) ?_
    refine lv_aload_n hx hb dX0_count_110 rfl (lv_at hl 0 rfl) ?_
    refine r_get (C := RX0) (T := TX0) (N := 11) hx hb hts in_X0 hown hK hI (cf_main) rfl 2 (by decide) (hts _ q398) (fun _ h => h) rfl dX0_count_111 ?_
    exact W.iret hx hb hr (fun t ht _ => ⟨rI (by first | (simp only [a_count, aR, if_neg c_1_0, if_neg c_1_1, if_neg c_1_2, if_neg c_1_3, if_neg c_1_4, if_pos c_1_5]; done) | (simp [a_count, aR, c_1_0, c_1_1, c_1_2, c_1_3, c_1_4, c_1_5]; done)), by rw [ht]; exact hw_eq hI (congrArg (cfC D L) (by first | (rw []; simp only [a_count, aC, if_neg c_1_0, if_neg c_1_1, if_neg c_1_2, if_neg c_1_3, if_neg c_1_4, if_pos c_1_5]; done) | (simp only [a_count, aC, xs_self, if_neg c_1_0, if_neg c_1_1, if_neg c_1_2, if_neg c_1_3, if_neg c_1_4, if_pos c_1_5]; done) | (rw []; simp [a_count, aC, c_1_0, c_1_1, c_1_2, c_1_3, c_1_4, c_1_5]; done) | (simp [a_count, aC, c_1_0, c_1_1, c_1_2, c_1_3, c_1_4, c_1_5, xs_self]; done))), hS.F ht⟩) hS.2.2 dX0_count_114
  by_cases c_1_6 : w = 6
  · skip
    refine lv_tableIn (off := 114) (tgt := 115) hx hb dX0_count_1 (by rw [c_1_6]; decide) (by rw [c_1_6]; decide) (by rw [c_1_6]; rfl) (by decide) ?_
    refine lv_aload_n hx hb dX0_count_115 rfl (lv_at hl 0 rfl) ?_
    refine r_get (C := RX0) (T := TX0) (N := 11) hx hb hts in_X0 hown hK hI (cf_main) rfl 3 (by decide) (hts _ q401) (fun _ h => h) rfl dX0_count_116 ?_
    refine r_getN (C := RX4) (T := TX4) (N := 7) hx hb hts in_X4 hown hK hI (cf_W (w := 0) (by decide)) rfl 5 (by decide) (nf_10 hK) (fun _ h => h) rfl dX0_count_119 ?_
    exact W.iret hx hb hr (fun t ht _ => ⟨rI (by first | (simp only [a_count, aR, if_neg c_1_0, if_neg c_1_1, if_neg c_1_2, if_neg c_1_3, if_neg c_1_4, if_neg c_1_5, if_pos c_1_6]; done) | (simp [a_count, aR, c_1_0, c_1_1, c_1_2, c_1_3, c_1_4, c_1_5, c_1_6]; done)), by rw [ht]; exact hw_eq hI (congrArg (cfC D L) (by first | (rw []; simp only [a_count, aC, if_neg c_1_0, if_neg c_1_1, if_neg c_1_2, if_neg c_1_3, if_neg c_1_4, if_neg c_1_5, if_pos c_1_6]; done) | (simp only [a_count, aC, xs_self, if_neg c_1_0, if_neg c_1_1, if_neg c_1_2, if_neg c_1_3, if_neg c_1_4, if_neg c_1_5, if_pos c_1_6]; done) | (rw []; simp [a_count, aC, c_1_0, c_1_1, c_1_2, c_1_3, c_1_4, c_1_5, c_1_6]; done) | (simp [a_count, aC, c_1_0, c_1_1, c_1_2, c_1_3, c_1_4, c_1_5, c_1_6, xs_self]; done))), hS.F ht⟩) hS.2.2 dX0_count_122
  by_cases c_1_7 : w = 7
  · skip
    refine lv_tableIn (off := 122) (tgt := 123) hx hb dX0_count_1 (by rw [c_1_7]; decide) (by rw [c_1_7]; decide) (by rw [c_1_7]; rfl) (by decide) ?_
    refine lv_aload_n hx hb dX0_count_123 rfl (lv_at hl 0 rfl) ?_
    refine c_r (k_V (As := []) (rest := []) F (k_X0_holding x) (cwV 0 hts (lw_V q1150 q1152 qs45 q91 q1153) rfl rfl rfl (by decide +kernel) ⟨Nat.le_of_ble_eq_true rfl, Nat.le_of_ble_eq_true rfl⟩) hI hK (hw.recv hI hK (cf_main) rfl) rfl hl.1 rfl (Nat.le_of_ble_eq_true rfl) dX0_count_124 ⟨Nat.le_of_ble_eq_true rfl, Nat.le_of_ble_eq_true rfl⟩) ?_
    exact W.iret hx hb hr (fun t ht _ => ⟨rI (by first | (simp only [a_count, aR, if_neg c_1_0, if_neg c_1_1, if_neg c_1_2, if_neg c_1_3, if_neg c_1_4, if_neg c_1_5, if_neg c_1_6, if_pos c_1_7]; done) | (simp [a_count, aR, c_1_0, c_1_1, c_1_2, c_1_3, c_1_4, c_1_5, c_1_6, c_1_7]; done)), by rw [ht]; exact hw_eq hI (congrArg (cfC D L) (by first | (rw []; simp only [a_count, aC, if_neg c_1_0, if_neg c_1_1, if_neg c_1_2, if_neg c_1_3, if_neg c_1_4, if_neg c_1_5, if_neg c_1_6, if_pos c_1_7]; done) | (simp only [a_count, aC, xs_self, if_neg c_1_0, if_neg c_1_1, if_neg c_1_2, if_neg c_1_3, if_neg c_1_4, if_neg c_1_5, if_neg c_1_6, if_pos c_1_7]; done) | (rw []; simp [a_count, aC, c_1_0, c_1_1, c_1_2, c_1_3, c_1_4, c_1_5, c_1_6, c_1_7]; done) | (simp [a_count, aC, c_1_0, c_1_1, c_1_2, c_1_3, c_1_4, c_1_5, c_1_6, c_1_7, xs_self]; done))), hS.F ht⟩) hS.2.2 dX0_count_127
  refine lv_tableOut (tgt := 128) hx hb dX0_count_1 (by have n0 := lv_neT c_1_0 (a := 0) (by decide); have n1 := lv_neT c_1_1 (a := 1) (by decide); have n2 := lv_neT c_1_2 (a := 2) (by decide); have n3 := lv_neT c_1_3 (a := 3) (by decide); have n4 := lv_neT c_1_4 (a := 4) (by decide); have n5 := lv_neT c_1_5 (a := 5) (by decide); have n6 := lv_neT c_1_6 (a := 6) (by decide); have n7 := lv_neT c_1_7 (a := 7) (by decide); omega) (by decide) ?_
  refine lv_aload_n hx hb dX0_count_128 rfl (lv_at hl 0 rfl) ?_
  refine lv_iconst (v := 0) hx hb dX0_count_129 (by decide) ?_
  refine c_m (k_V (As := [.int 0]) (rest := []) F (k_X0_finding x 0 (by decide)) (cwV 1 hts (lw_V q457 q459 qs2 q91 q460) rfl rfl rfl (by decide +kernel) ⟨Nat.le_of_ble_eq_true rfl, Nat.le_of_ble_eq_true rfl⟩) hI hK (hw.recv hI hK (cf_main) rfl) rfl hl.1 rfl (Nat.le_of_ble_eq_true rfl) dX0_count_130 ⟨Nat.le_of_ble_eq_true rfl, Nat.le_of_ble_eq_true rfl⟩) hS (fun H1 locs1 hI hS => ?_)
  obtain ⟨x1, ex1⟩ : ∃ z, z = (fnd x 0) := ⟨_, rfl⟩
  rw [← ex1] at hI
  exact W.iret hx hb hr (fun t ht _ => ⟨rI (by first | (simp only [a_count, aR, if_neg c_1_0, if_neg c_1_1, if_neg c_1_2, if_neg c_1_3, if_neg c_1_4, if_neg c_1_5, if_neg c_1_6, if_neg c_1_7]; done) | (simp [a_count, aR, c_1_0, c_1_1, c_1_2, c_1_3, c_1_4, c_1_5, c_1_6, c_1_7]; done)), by rw [ht]; exact hw_eq hI (congrArg (cfC D L) (by first | (rw [ex1]; simp only [a_count, aC, if_neg c_1_0, if_neg c_1_1, if_neg c_1_2, if_neg c_1_3, if_neg c_1_4, if_neg c_1_5, if_neg c_1_6, if_neg c_1_7]; done) | (simp only [a_count, aC, xs_self, if_neg c_1_0, if_neg c_1_1, if_neg c_1_2, if_neg c_1_3, if_neg c_1_4, if_neg c_1_5, if_neg c_1_6, if_neg c_1_7]; done) | (rw [ex1]; simp [a_count, aC, c_1_0, c_1_1, c_1_2, c_1_3, c_1_4, c_1_5, c_1_6, c_1_7]; done) | (simp [a_count, aC, c_1_0, c_1_1, c_1_2, c_1_3, c_1_4, c_1_5, c_1_6, c_1_7, xs_self]; done))), hS.F ht⟩) hS.2.2 dX0_count_133
theorem k_X0_status {l : Launch} {D : va_G} {L : Nat → Nat} {A : Nat → Prop} (x : cst) (k : Int32) : Met l yX0_status (ws_ yX0_status cX0_status 4 (some .int)) ({ frames := 1, cells := 0, slots := 0, locals := 22 } : Room) (va_Pc [.ref (L 44), .int k] (pI D (cfC D L x) A)) (nQ D (cfC D L (aC x (a_status (x.2.1 3) (x.1 0) k))) A (some (.int (aR (a_status (x.2.1 3) (x.1 0) k))))) 0 0 A := by
  refine met_I (by decide) rfl (Nat.le_of_ble_eq_true rfl) ?_
  intro p e s m below meth c ls hx hb hr hml hown hts hlocks hl hI hK
  have F : CallFix p m c cX0_status 4 s _ lw_all RX0 := ⟨hx, hb, hml, hown, hts⟩
  have hl : lv_has ls 4 [(0, .ref (L 44)), (1, .int k)] := hl
  have hS : va_S A s.heap s.heap [] := va_S.rf
  refine lv_iload_n hx hb dX0_status_0 rfl (lv_at hl 1 rfl) ?_
  refine lv_iconst (v := (-1)) hx hb dX0_status_1 (by decide) ?_
  refine lv_bipush (v := 6) hx hb dX0_status_2 (by decide) ?_
  refine c_r (k_S (As := [.int k, .int (-1), .int 6]) (rest := []) F (k_X0_in k (-1) 6) (va_cwS 3 hts (lw_S q439 q440 q91 q441) rfl rfl rfl (by decide +kernel) ⟨Nat.le_of_ble_eq_true rfl, Nat.le_of_ble_eq_true rfl⟩) rfl hl.1 rfl (Nat.le_of_ble_eq_true rfl) dX0_status_4 ⟨Nat.le_of_ble_eq_true rfl, Nat.le_of_ble_eq_true rfl⟩) ?_
  refine lv_if_ne (tgt := 16) hx hb dX0_status_7 (by decide) (fun c_7 => ?_) (fun c_7 => ?_)
  · skip
    refine lv_iconst (v := 0) hx hb dX0_status_16 (by decide) ?_
    refine lv_istore_n (lv' := [(2, .int 0), (0, .ref (L 44)), (1, .int k)]) hx hb dX0_status_17 rfl hl (by decide) rfl (fun ls hl => ?_)
    refine lv_iconst (v := 0) hx hb dX0_status_18 (by decide) ?_
    refine lv_istore_n (lv' := [(3, .int 0), (2, .int 0), (0, .ref (L 44)), (1, .int k)]) hx hb dX0_status_19 rfl hl (by decide) rfl (fun ls hl => ?_)
    have lp20 : ∀ (fuel : Nat) (i : Nat), (i ≤ 7) → 7 - i < fuel → ∀ (v2 : Int32) (v3 : Int32), v2 = (itr (sttS (x.2.1 3) k) 0 i) → v3 = nI i → ∀ (xc20 : cst), xc20 = x → ∀ (H : Heap) (locs : List Loc), hw D (cfC D L xc20) A H → va_S A s.heap H locs → ∀ (ls : Array Slot), lv_has ls 4 [(0, .ref (L 44)), (1, .int k), (2, .int v2), (3, .int v3)] → W p l e ({ frames := 1, cells := 0, slots := 0, locals := 22 } : Room) s m ([.ref (L 44), .int k] : List Value).toArray below meth c H locs 0 0 (MQ below (nQ D (cfC D L (aC x (a_status (x.2.1 3) (x.1 0) k))) A (some (.int (aR (a_status (x.2.1 3) (x.1 0) k))))) ([.ref (L 44), .int k] : List Value).toArray s 0 0 A) (F0 m 20 ls []) := by
      intro fuel
      induction fuel with
      | zero => intro i hi hf; exact absurd hf (Nat.not_lt_zero _)
      | succ fuel ih20 =>
        intro i hi hf20 v2 v3 e2 e3  xc20 exc20 H locs hI hS ls hl
        subst e2 e3
        refine lv_iload_n hx hb dX0_status_20 rfl (lv_at hl 3 rfl) ?_
        refine lv_aload_n hx hb dX0_status_21 rfl (lv_at hl 0 rfl) ?_
        refine r_get (C := RX0) (T := TX0) (N := 11) hx hb hts in_X0 hown hK hI (cf_main) rfl 10 (by decide) (hts _ q408) (fun _ h => h) rfl dX0_status_22 ?_
        refine r_alen (v := 7) hx hb hK hI (cf_find) 0 rfl (rfl) dX0_status_25 ?_
        refine lv_icmp_ge (tgt := 58) hx hb dX0_status_26 (by decide) (fun c_26 => ?_) (fun c_26 => ?_)
        · skip
          have c_26 : 7 ≤ i := (nle (a := 7) (b := i) (rfl) (rfl) (by omega) (by omega)).mp c_26
          refine lv_iload_n hx hb dX0_status_58 rfl (lv_at hl 2 rfl) ?_
          exact W.iret hx hb hr (fun t ht _ => ⟨rI (by first | (simp only [a_status, aR, if_neg c_7, if_pos c_26]; done) | (simp only [a_status, aR, if_neg c_7, if_pos c_26, sttI, show i = 7 by omega])), by rw [ht]; exact hw_eq hI (congrArg (cfC D L) (by rw [exc20]; simp only [a_status, aC, if_neg c_7, if_pos c_26, xs_self])), hS.F ht⟩) hS.2.2 dX0_status_59
        · skip
          have c_26 : ¬ 7 ≤ i := fun z => c_26 ((nle (a := 7) (b := i) (rfl) (rfl) (by omega) (by omega)).mpr z)
          refine lv_iload_n hx hb dX0_status_29 rfl (lv_at hl 2 rfl) ?_
          refine lv_iload_n hx hb dX0_status_30 rfl (lv_at hl 1 rfl) ?_
          refine lv_iconst (v := (-1)) hx hb dX0_status_31 (by decide) ?_
          refine lv_icmp_eq (tgt := 40) hx hb dX0_status_32 (by decide) (fun c_32 => ?_) (fun c_32 => ?_)
          · skip
            refine lv_aload_n hx hb dX0_status_40 rfl (lv_at hl 0 rfl) ?_
            refine r_get (C := RX0) (T := TX0) (N := 11) hx hb hts in_X0 hown hK hI (cf_main) rfl 10 (by decide) (hts _ q408) (fun _ h => h) rfl dX0_status_41 ?_
            refine lv_iload_n hx hb dX0_status_44 rfl (lv_at hl 3 rfl) ?_
            refine n_iald (k := i) hx hb hK hI (cf_find) (rfl) (by omega) (by decide) dX0_status_45 ?_
            refine lv_goto (tgt := 50) hx hb dX0_status_46 (by decide) ?_
            refine lv_iadd hx hb dX0_status_50 ?_
            refine lv_istore_n (lv' := [(2, .int ((itr (sttS (x.2.1 3) k) 0 i) + (xc20.2.1 3 i))), (0, .ref (L 44)), (1, .int k), (3, .int (nI i))]) hx hb dX0_status_51 rfl hl (by decide) rfl (fun ls hl => ?_)
            refine lv_iinc (v := (nI (i + 1))) (lv' := [(3, .int (nI (i + 1))), (2, .int ((itr (sttS (x.2.1 3) k) 0 i) + (xc20.2.1 3 i))), (0, .ref (L 44)), (1, .int k)]) hx hb dX0_status_52 hl (k := 3) rfl (nI_1 _) (by decide) rfl (fun ls hl => ?_)
            refine lv_goto (tgt := 20) hx hb dX0_status_55 (by decide) ?_
            exact ih20 (i + 1) (by omega) (by omega) ((itr (sttS (x.2.1 3) k) 0 i) + (xc20.2.1 3 i)) (nI (i + 1)) (by simp only [itr_s, sttS, exc20, if_neg c_7, if_neg c_26, if_pos c_32]) (rfl) xc20 (exc20) _ _ hI hS ls (lv_sub hl [2, 3, 1, 0] rfl)
          · skip
            refine lv_iload_n hx hb dX0_status_35 rfl (lv_at hl 1 rfl) ?_
            refine lv_iload_n hx hb dX0_status_36 rfl (lv_at hl 3 rfl) ?_
            refine lv_icmp_ne (tgt := 49) hx hb dX0_status_37 (by decide) (fun c_37 => ?_) (fun c_37 => ?_)
            · skip
              refine lv_iconst (v := 0) hx hb dX0_status_49 (by decide) ?_
              refine lv_iadd hx hb dX0_status_50 ?_
              refine lv_istore_n (lv' := [(2, .int ((itr (sttS (x.2.1 3) k) 0 i) + (0 : Int32))), (0, .ref (L 44)), (1, .int k), (3, .int (nI i))]) hx hb dX0_status_51 rfl hl (by decide) rfl (fun ls hl => ?_)
              refine lv_iinc (v := (nI (i + 1))) (lv' := [(3, .int (nI (i + 1))), (2, .int ((itr (sttS (x.2.1 3) k) 0 i) + (0 : Int32))), (0, .ref (L 44)), (1, .int k)]) hx hb dX0_status_52 hl (k := 3) rfl (nI_1 _) (by decide) rfl (fun ls hl => ?_)
              refine lv_goto (tgt := 20) hx hb dX0_status_55 (by decide) ?_
              exact ih20 (i + 1) (by omega) (by omega) ((itr (sttS (x.2.1 3) k) 0 i) + (0 : Int32)) (nI (i + 1)) (by simp only [itr_s, sttS, exc20, if_neg c_7, if_neg c_26, if_neg c_32, if_neg c_37]) (rfl) xc20 (exc20) _ _ hI hS ls (lv_sub hl [2, 3, 1, 0] rfl)
            · skip
              refine lv_aload_n hx hb dX0_status_40 rfl (lv_at hl 0 rfl) ?_
              refine r_get (C := RX0) (T := TX0) (N := 11) hx hb hts in_X0 hown hK hI (cf_main) rfl 10 (by decide) (hts _ q408) (fun _ h => h) rfl dX0_status_41 ?_
              refine lv_iload_n hx hb dX0_status_44 rfl (lv_at hl 3 rfl) ?_
              refine n_iald (k := i) hx hb hK hI (cf_find) (rfl) (by omega) (by decide) dX0_status_45 ?_
              refine lv_goto (tgt := 50) hx hb dX0_status_46 (by decide) ?_
              refine lv_iadd hx hb dX0_status_50 ?_
              refine lv_istore_n (lv' := [(2, .int ((itr (sttS (x.2.1 3) k) 0 i) + (xc20.2.1 3 i))), (0, .ref (L 44)), (1, .int k), (3, .int (nI i))]) hx hb dX0_status_51 rfl hl (by decide) rfl (fun ls hl => ?_)
              refine lv_iinc (v := (nI (i + 1))) (lv' := [(3, .int (nI (i + 1))), (2, .int ((itr (sttS (x.2.1 3) k) 0 i) + (xc20.2.1 3 i))), (0, .ref (L 44)), (1, .int k)]) hx hb dX0_status_52 hl (k := 3) rfl (nI_1 _) (by decide) rfl (fun ls hl => ?_)
              refine lv_goto (tgt := 20) hx hb dX0_status_55 (by decide) ?_
              exact ih20 (i + 1) (by omega) (by omega) ((itr (sttS (x.2.1 3) k) 0 i) + (xc20.2.1 3 i)) (nI (i + 1)) (by simp only [itr_s, sttS, exc20, if_neg c_7, if_neg c_26, if_neg c_32, if_pos c_37]) (rfl) xc20 (exc20) _ _ hI hS ls (lv_sub hl [2, 3, 1, 0] rfl)
    exact lp20 (_ + 1) (0) (Nat.zero_le _) (Nat.lt_succ_self _) 0 0 (rfl) (rfl) x (rfl) _ _ hI hS ls (lv_sub hl [2, 3, 1, 0] rfl)
  · skip
    refine lv_aload_n hx hb dX0_status_10 rfl (lv_at hl 0 rfl) ?_
    refine lv_iconst (v := 0) hx hb dX0_status_11 (by decide) ?_
    refine c_m (k_V (As := [.int 0]) (rest := []) F (k_X0_finding x 0 (by decide)) (cwV 1 hts (lw_V q457 q459 qs2 q91 q460) rfl rfl rfl (by decide +kernel) ⟨Nat.le_of_ble_eq_true rfl, Nat.le_of_ble_eq_true rfl⟩) hI hK (hw.recv hI hK (cf_main) rfl) rfl hl.1 rfl (Nat.le_of_ble_eq_true rfl) dX0_status_12 ⟨Nat.le_of_ble_eq_true rfl, Nat.le_of_ble_eq_true rfl⟩) hS (fun H1 locs1 hI hS => ?_)
    obtain ⟨x1, ex1⟩ : ∃ z, z = (fnd x 0) := ⟨_, rfl⟩
    rw [← ex1] at hI
    exact W.iret hx hb hr (fun t ht _ => ⟨rI (by first | (simp only [a_status, aR, if_pos c_7]; done) | (simp only [a_status, aR, if_pos c_7, sttI, show i = 7 by omega])), by rw [ht]; exact hw_eq hI (congrArg (cfC D L) (by rw [ex1]; simp only [a_status, aC, if_pos c_7, xs_self])), hS.F ht⟩) hS.2.2 dX0_status_15
theorem k_X0_hold {l : Launch} {D : va_G} {L : Nat → Nat} {A : Nat → Prop} (x : cst) (s0 g : Int32) : Met l yX0_hold (ws_ yX0_hold cX0_hold 3 (some .int)) ({ frames := 2, cells := 0, slots := 0, locals := 43 } : Room) (va_Pc [.ref (L 44), .int s0, .int g] (pI D (cfC D L x) A)) (nQ D (cfC D L (aC x (a_hold (x.1 0) s0 g))) A (some (.int (aR (a_hold (x.1 0) s0 g))))) 0 0 A := by
  refine met_I (by decide) rfl (Nat.le_of_ble_eq_true rfl) ?_
  intro p e s m below meth c ls hx hb hr hml hown hts hlocks hl hI hK
  have F : CallFix p m c cX0_hold 3 s _ lw_all RX0 := ⟨hx, hb, hml, hown, hts⟩
  have hl : lv_has ls 3 [(0, .ref (L 44)), (1, .int s0), (2, .int g)] := hl
  have hS : va_S A s.heap s.heap [] := va_S.rf
  refine lv_iload_n hx hb dX0_hold_0 rfl (lv_at hl 1 rfl) ?_
  refine c_r (k_S (As := [.int s0]) (rest := []) F (k_X0_isSpot s0) (va_cwS 1 hts (lw_S q1064 q1065 q91 q1066) rfl rfl rfl (by decide +kernel) ⟨Nat.le_of_ble_eq_true rfl, Nat.le_of_ble_eq_true rfl⟩) rfl hl.1 rfl (Nat.le_of_ble_eq_true rfl) dX0_hold_1 ⟨Nat.le_of_ble_eq_true rfl, Nat.le_of_ble_eq_true rfl⟩) ?_
  refine lv_if_eq (tgt := 20) hx hb dX0_hold_4 (by decide) (fun c_4 => ?_) (fun c_4 => ?_)
  · skip
    refine lv_aload_n hx hb dX0_hold_20 rfl (lv_at hl 0 rfl) ?_
    refine lv_iconst (v := 0) hx hb dX0_hold_21 (by decide) ?_
    refine c_m (k_V (As := [.int 0]) (rest := []) F (k_X0_finding x 0 (by decide)) (cwV 1 hts (lw_V q457 q459 qs2 q91 q460) rfl rfl rfl (by decide +kernel) ⟨Nat.le_of_ble_eq_true rfl, Nat.le_of_ble_eq_true rfl⟩) hI hK (hw.recv hI hK (cf_main) rfl) rfl hl.1 rfl (Nat.le_of_ble_eq_true rfl) dX0_hold_22 ⟨Nat.le_of_ble_eq_true rfl, Nat.le_of_ble_eq_true rfl⟩) hS (fun H1 locs1 hI hS => ?_)
    obtain ⟨x1, ex1⟩ : ∃ z, z = (fnd x 0) := ⟨_, rfl⟩
    rw [← ex1] at hI
    exact W.iret hx hb hr (fun t ht _ => ⟨rI (by first | (simp only [a_hold, aR, if_pos c_4]; done) | (simp [a_hold, aR, c_4]; done)), by rw [ht]; exact hw_eq hI (congrArg (cfC D L) (by first | (rw [ex1]; simp only [a_hold, aC, if_pos c_4]; done) | (simp only [a_hold, aC, xs_self, if_pos c_4]; done) | (rw [ex1]; simp [a_hold, aC, c_4]; done) | (simp [a_hold, aC, c_4, xs_self]; done))), hS.F ht⟩) hS.2.2 dX0_hold_25
  · skip
    refine lv_iload_n hx hb dX0_hold_7 rfl (lv_at hl 2 rfl) ?_
    refine lv_iconst (v := (-1)) hx hb dX0_hold_8 (by decide) ?_
    refine lv_icmp_eq (tgt := 26) hx hb dX0_hold_9 (by decide) (fun c_9 => ?_) (fun c_9 => ?_)
    · skip
      obtain ⟨j, hj, es0⟩ := inI_to (b := 9) rfl (by decide) c_4
      have es02 : s0.toNatClampNeg = j := by rw [es0, nI_clamp (by omega)]
      subst es0
      refine lv_aload_n hx hb dX0_hold_26 rfl (lv_at hl 0 rfl) ?_
      refine r_get (C := RX0) (T := TX0) (N := 11) hx hb hts in_X0 hown hK hI (cf_main) rfl 3 (by decide) (hts _ q401) (fun _ h => h) rfl dX0_hold_27 ?_
      refine r_getN (C := RX4) (T := TX4) (N := 7) hx hb hts in_X4 hown hK hI (cf_W (w := 0) (by decide)) rfl 6 (by decide) (nf_11 hK) (fun _ h => h) rfl dX0_hold_30 ?_
      refine lv_iload_n hx hb dX0_hold_33 rfl (lv_at hl 1 rfl) ?_
      refine lv_iload_n hx hb dX0_hold_34 rfl (lv_at hl 2 rfl) ?_
      obtain ⟨x2, ex2⟩ : ∃ z, z = xs x 0 (u2 (x.1 0) 9 j g) := ⟨_, rfl⟩
      refine n_iast (cf' := cfC D L x2) (k := j) hx hb hK hI hS (cf_holds (w := 0) (by decide)) (rfl) (by omega) (by decide) (by rw [ex2]; exact cs_holds (w := 0) (by decide)) dX0_hold_35 (fun H1 locs1 hI hS => ?_)
      refine lv_iconst (v := 1) hx hb dX0_hold_36 (by decide) ?_
      exact W.iret hx hb hr (fun t ht _ => ⟨rI (by first | (simp only [a_hold, aR, if_neg c_4, if_pos c_9, es02]; done) | (simp [a_hold, aR, c_4, c_9, es02]; done)), by rw [ht]; exact hw_eq hI (congrArg (cfC D L) (by first | (rw [ex2]; simp only [a_hold, aC, if_neg c_4, if_pos c_9, es02]; done) | (simp only [a_hold, aC, xs_self, if_neg c_4, if_pos c_9, es02]; done) | (rw [ex2]; simp [a_hold, aC, c_4, c_9, es02]; done) | (simp [a_hold, aC, c_4, c_9, es02, xs_self]; done))), hS.F ht⟩) hS.2.2 dX0_hold_37
    · skip
      refine lv_aload_n hx hb dX0_hold_12 rfl (lv_at hl 0 rfl) ?_
      refine lv_iload_n hx hb dX0_hold_13 rfl (lv_at hl 2 rfl) ?_
      refine c_r (k_V (As := [.int g]) (rest := []) F (k_X0_isGlove x g) (cwV 1 hts (lw_V q543 q545 qs5 q91 q546) rfl rfl rfl (by decide +kernel) ⟨Nat.le_of_ble_eq_true rfl, Nat.le_of_ble_eq_true rfl⟩) hI hK (hw.recv hI hK (cf_main) rfl) rfl hl.1 rfl (Nat.le_of_ble_eq_true rfl) dX0_hold_14 ⟨Nat.le_of_ble_eq_true rfl, Nat.le_of_ble_eq_true rfl⟩) ?_
      refine lv_if_ne (tgt := 26) hx hb dX0_hold_17 (by decide) (fun c_17 => ?_) (fun c_17 => ?_)
      · skip
        obtain ⟨j, hj, es0⟩ := inI_to (b := 9) rfl (by decide) c_4
        have es02 : s0.toNatClampNeg = j := by rw [es0, nI_clamp (by omega)]
        subst es0
        refine lv_aload_n hx hb dX0_hold_26 rfl (lv_at hl 0 rfl) ?_
        refine r_get (C := RX0) (T := TX0) (N := 11) hx hb hts in_X0 hown hK hI (cf_main) rfl 3 (by decide) (hts _ q401) (fun _ h => h) rfl dX0_hold_27 ?_
        refine r_getN (C := RX4) (T := TX4) (N := 7) hx hb hts in_X4 hown hK hI (cf_W (w := 0) (by decide)) rfl 6 (by decide) (nf_11 hK) (fun _ h => h) rfl dX0_hold_30 ?_
        refine lv_iload_n hx hb dX0_hold_33 rfl (lv_at hl 1 rfl) ?_
        refine lv_iload_n hx hb dX0_hold_34 rfl (lv_at hl 2 rfl) ?_
        obtain ⟨x3, ex3⟩ : ∃ z, z = xs x 0 (u2 (x.1 0) 9 j g) := ⟨_, rfl⟩
        refine n_iast (cf' := cfC D L x3) (k := j) hx hb hK hI hS (cf_holds (w := 0) (by decide)) (rfl) (by omega) (by decide) (by rw [ex3]; exact cs_holds (w := 0) (by decide)) dX0_hold_35 (fun H1 locs1 hI hS => ?_)
        refine lv_iconst (v := 1) hx hb dX0_hold_36 (by decide) ?_
        exact W.iret hx hb hr (fun t ht _ => ⟨rI (by first | (simp only [a_hold, aR, if_neg c_4, if_neg c_9, if_neg c_17, es02]; done) | (simp [a_hold, aR, c_4, c_9, c_17, es02]; done)), by rw [ht]; exact hw_eq hI (congrArg (cfC D L) (by first | (rw [ex3]; simp only [a_hold, aC, if_neg c_4, if_neg c_9, if_neg c_17, es02]; done) | (simp only [a_hold, aC, xs_self, if_neg c_4, if_neg c_9, if_neg c_17, es02]; done) | (rw [ex3]; simp [a_hold, aC, c_4, c_9, c_17, es02]; done) | (simp [a_hold, aC, c_4, c_9, c_17, es02, xs_self]; done))), hS.F ht⟩) hS.2.2 dX0_hold_37
      · skip
        refine lv_aload_n hx hb dX0_hold_20 rfl (lv_at hl 0 rfl) ?_
        refine lv_iconst (v := 0) hx hb dX0_hold_21 (by decide) ?_
        refine c_m (k_V (As := [.int 0]) (rest := []) F (k_X0_finding x 0 (by decide)) (cwV 1 hts (lw_V q457 q459 qs2 q91 q460) rfl rfl rfl (by decide +kernel) ⟨Nat.le_of_ble_eq_true rfl, Nat.le_of_ble_eq_true rfl⟩) hI hK (hw.recv hI hK (cf_main) rfl) rfl hl.1 rfl (Nat.le_of_ble_eq_true rfl) dX0_hold_22 ⟨Nat.le_of_ble_eq_true rfl, Nat.le_of_ble_eq_true rfl⟩) hS (fun H1 locs1 hI hS => ?_)
        obtain ⟨x4, ex4⟩ : ∃ z, z = (fnd x 0) := ⟨_, rfl⟩
        rw [← ex4] at hI
        exact W.iret hx hb hr (fun t ht _ => ⟨rI (by first | (simp only [a_hold, aR, if_neg c_4, if_neg c_9, if_pos c_17]; done) | (simp [a_hold, aR, c_4, c_9, c_17]; done)), by rw [ht]; exact hw_eq hI (congrArg (cfC D L) (by first | (rw [ex4]; simp only [a_hold, aC, if_neg c_4, if_neg c_9, if_pos c_17]; done) | (simp only [a_hold, aC, xs_self, if_neg c_4, if_neg c_9, if_pos c_17]; done) | (rw [ex4]; simp [a_hold, aC, c_4, c_9, c_17]; done) | (simp [a_hold, aC, c_4, c_9, c_17, xs_self]; done))), hS.F ht⟩) hS.2.2 dX0_hold_25
