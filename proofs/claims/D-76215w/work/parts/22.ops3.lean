/-! LeftGloves: the best choice for what will be -/
theorem pred_lt {j : Nat} (h : j ≤ 1000) : nI j - 1 < 0 ↔ j = 0 := by
  cases j with
  | zero => exact ⟨fun _ => rfl, fun _ => by decide⟩
  | succ j =>
    rw [nI_pred]
    refine ⟨fun h2 => ?_, fun h2 => by omega⟩
    exact absurd ((nlt (a := j) (b := 0) rfl rfl (by omega) (by decide)).mp h2) (by omega)
theorem pred_s {j : Nat} (h : 0 < j) : nI j - 1 = nI (j - 1) := by
  obtain ⟨q, rfl⟩ : ∃ q, j = q + 1 := ⟨j - 1, by omega⟩
  exact nI_pred q
theorem wOk_mr {f : wd} (h : wOk f) {r many k i : Nat} (hrm : (r = 0 ∧ many ≤ 7) ∨ (r = 1 ∧ many ≤ 6)) (hi : i < many) : wOk (u2 f (2 + r) k (nI i)) := by
  rcases hrm with ⟨h1, h2⟩ | ⟨h1, h2⟩
  · subst h1; exact wOk_u (r := 2) h ⟨i, Nat.lt_of_lt_of_le hi h2, rfl⟩ (by decide)
  · subst h1; exact wOk_u (r := 3) h ⟨i, Nat.lt_of_lt_of_le hi h2, rfl⟩ (by decide)
theorem wOk_m2 {f : wd} (h : wOk f) {k i : Nat} (hi : i < 10) : wOk (u2 f (2 + 2) k (nI i)) := wOk_u (r := 4) h ⟨i, hi, rfl⟩ (by decide)
def aoI (f : wd) (g n : Int32) : Int32 := if isGlI f g = 0 then 0 else if inI n 0 60 = 0 then 0 else 1
theorem aoI_01 (f : wd) (g n : Int32) : aoI f g n = 0 ∨ aoI f g n = 1 := by
  unfold aoI; split
  · exact Or.inl rfl
  · split
    · exact Or.inl rfl
    · exact Or.inr rfl
theorem ao_to {f : wd} {g n : Int32} (h : ¬ aoI f g n = 0) : ¬ isGlI f g = 0 ∧ ¬ inI n 0 60 = 0 := by
  refine ⟨fun q => h ?_, fun q => h ?_⟩
  · simp [aoI, q]
  · simp [aoI, q]
def loR (f : wd) (k : Nat) (v : Int32) (n : Nat) : Nat → Int32 → Int32
  | 0, b => b
  | j + 1, b => loR f k v n j (if bcI (tbI (u2 f (2 + 2) k (nI j)) k 5 n) < v then b else nI j)
theorem loR_s {f : wd} {k : Nat} {v : Int32} {n j : Nat} {b : Int32} (h : 0 < j) : loR f k v n j b = loR f k v n (j - 1) (if bcI (tbI (u2 f (2 + 2) k (nI (j - 1))) k 5 n) < v then b else nI (j - 1)) := by
  obtain ⟨q, rfl⟩ : ∃ q, j = q + 1 := ⟨j - 1, by omega⟩
  rfl
def loI (f : wd) (k : Nat) (v : Int32) (n : Nat) : Int32 := loR f k v n 10 (-1)
def a_leave (f : wd) (g n : Int32) : act := if aoI f g n = 0 then .inl 0 else .inr (mbI f g.toNatClampNeg 1 6 n.toNatClampNeg, f)
def a_kindFor (f : wd) (g n : Int32) : act := if aoI f g n = 0 then .inl 0 else .inr (mbI f g.toNatClampNeg 0 7 n.toNatClampNeg, f)
def a_openFor (f : wd) (g v n : Int32) : act := if aoI f g n = 0 then .inl 0 else if inI v 0 16 = 0 then .inl 0 else a_orN f (loI f g.toNatClampNeg v n.toNatClampNeg)
def fkS (f : wd) (t : Int32) (s : Nat) (b : Int32) : Int32 := if b = -1 then (if t &&& (kbI f (nI s) ^^^ (-1)) = 0 then nI s else b) else if bcI (nI s) < bcI b then (if t &&& (kbI f (nI s) ^^^ (-1)) = 0 then nI s else b) else b
def fkI (f : wd) (t : Int32) : Int32 := itr (fkS f t) (-1) (2 ^ wN f)
theorem all_nat {f : wd} {n : Nat} (hn : f 1 0 = nI n) (h8 : n ≤ 8) : allI f = nI (2 ^ n - 1) ∧ 2 ^ n - 1 ≤ 255 := by
  unfold allI
  rw [hn]
  have : n = 0 ∨ n = 1 ∨ n = 2 ∨ n = 3 ∨ n = 4 ∨ n = 5 ∨ n = 6 ∨ n = 7 ∨ n = 8 := by omega
  rcases this with rfl | rfl | rfl | rfl | rfl | rfl | rfl | rfl | rfl <;> decide
def a_cover (f : wd) (t : Int32) : act := if inI t 0 65535 = 0 then .inl 0 else a_orN f (fkI f t)
theorem k_X0_areOne {l : Launch} {D : va_G} {L : Nat → Nat} {A : Nat → Prop} (x : cst) (g n : Int32) : Met l yX0_areOne (ws_ yX0_areOne cX0_areOne 3 (some .boolean)) ({ frames := 2, cells := 0, slots := 0, locals := 43 } : Room) (va_Pc [.ref (L 44), .int g, .int n] (pI D (cfC D L x) A)) (rQ (.int (aoI (x.1 0) g n))) 0 0 nof := by
  refine met_I (by decide) rfl (Nat.le_of_ble_eq_true rfl) ?_
  intro p e s m below meth c ls hx hb hr hml hown hts hlocks hl hI hK
  have F : CallFix p m c cX0_areOne 3 s _ lw_all RX0 := ⟨hx, hb, hml, hown, hts⟩
  have hl : lv_has ls 3 [(0, .ref (L 44)), (1, .int g), (2, .int n)] := hl
  refine lv_aload_n hx hb dX0_areOne_0 rfl (lv_at hl 0 rfl) ?_
  refine lv_iload_n hx hb dX0_areOne_1 rfl (lv_at hl 1 rfl) ?_
  refine c_r (k_V (As := [.int g]) (rest := []) F (k_X0_isGlove x g) (cwV 1 hts (lw_V q543 q545 qs5 q91 q546) rfl rfl rfl (by decide +kernel) ⟨Nat.le_of_ble_eq_true rfl, Nat.le_of_ble_eq_true rfl⟩) hI hK (hw.recv hI hK (cf_main) rfl) rfl hl.1 rfl (Nat.le_of_ble_eq_true rfl) dX0_areOne_2 ⟨Nat.le_of_ble_eq_true rfl, Nat.le_of_ble_eq_true rfl⟩) ?_
  refine lv_if_eq (tgt := 22) hx hb dX0_areOne_5 (by decide) (fun c_5 => ?_) (fun c_5 => ?_)
  · skip
    refine lv_iconst (v := 0) hx hb dX0_areOne_22 (by decide) ?_
    exact W.zret hx hb hr (rfl) (fun t ht _ => ⟨rI (by simp only [aoI, if_pos c_5]), ht⟩) (fun q h => by cases h) dX0_areOne_23
  · skip
    refine lv_iload_n hx hb dX0_areOne_8 rfl (lv_at hl 2 rfl) ?_
    refine lv_iconst (v := 0) hx hb dX0_areOne_9 (by decide) ?_
    refine lv_bipush (v := 60) hx hb dX0_areOne_10 (by decide) ?_
    refine c_r (k_S (As := [.int n, .int 0, .int 60]) (rest := []) F (k_X0_in n 0 60) (va_cwS 3 hts (lw_S q439 q440 q91 q441) rfl rfl rfl (by decide +kernel) ⟨Nat.le_of_ble_eq_true rfl, Nat.le_of_ble_eq_true rfl⟩) rfl hl.1 rfl (Nat.le_of_ble_eq_true rfl) dX0_areOne_12 ⟨Nat.le_of_ble_eq_true rfl, Nat.le_of_ble_eq_true rfl⟩) ?_
    refine lv_if_eq (tgt := 22) hx hb dX0_areOne_15 (by decide) (fun c_15 => ?_) (fun c_15 => ?_)
    · skip
      refine lv_iconst (v := 0) hx hb dX0_areOne_22 (by decide) ?_
      exact W.zret hx hb hr (rfl) (fun t ht _ => ⟨rI (by simp only [aoI, if_neg c_5, if_pos c_15]), ht⟩) (fun q h => by cases h) dX0_areOne_23
    · skip
      refine lv_iconst (v := 1) hx hb dX0_areOne_18 (by decide) ?_
      refine lv_goto (tgt := 23) hx hb dX0_areOne_19 (by decide) ?_
      exact W.zret hx hb hr (rfl) (fun t ht _ => ⟨rI (by simp only [aoI, if_neg c_5, if_neg c_15]), ht⟩) (fun q h => by cases h) dX0_areOne_23
theorem k_X0_mostBy {l : Launch} {D : va_G} {L : Nat → Nat} {A : Nat → Prop} (x : cst) (hO : wOk (x.1 0)) (hd : isN (x.1 0 1 2) 10000) (k r many n : Nat) (hk : k < 8) (hrm : (r = 0 ∧ many ≤ 7) ∨ (r = 1 ∧ many ≤ 6)) (hn : n ≤ 1000) : Met l yX0_mostBy (ws_ yX0_mostBy cX0_mostBy 10 (some .int)) ({ frames := 8, cells := 0, slots := 0, locals := 177 } : Room) (va_Pc [.ref (L 44), .int (nI k), .int (nI r), .int (nI many), .int (nI n)] (pI D (cfC D L x) A)) (jQ D L x A (some (.int (mbI (x.1 0) k r many n)))) 0 0 A := by
  refine met_I (by decide) rfl (Nat.le_of_ble_eq_true rfl) ?_
  intro p e s m below meth c ls hx hb hr hml hown hts hlocks hl hI hK
  have F : CallFix p m c cX0_mostBy 10 s _ lw_all RX0 := ⟨hx, hb, hml, hown, hts⟩
  have hl : lv_has ls 10 [(0, .ref (L 44)), (1, .int (nI k)), (2, .int (nI r)), (3, .int (nI many)), (4, .int (nI n))] := hl
  have hS : va_S A s.heap s.heap [] := va_S.rf
  refine lv_aload_n hx hb dX0_mostBy_0 rfl (lv_at hl 0 rfl) ?_
  refine r_get (C := RX0) (T := TX0) (N := 11) hx hb hts in_X0 hown hK hI (cf_main) rfl 3 (by decide) (hts _ q401) (fun _ h => h) rfl dX0_mostBy_1 ?_
  refine r_getN (C := RX4) (T := TX4) (N := 7) hx hb hts in_X4 hown hK hI (cf_W (w := 0) (by decide)) rfl 2 (by decide) (nf_7 hK) (fun _ h => h) rfl dX0_mostBy_4 ?_
  refine lv_iload_n hx hb dX0_mostBy_7 rfl (lv_at hl 2 rfl) ?_
  refine n_aaldI (f := fun r => L (11 * 0 + 3 + r)) (k := r) hx hb hK hI (cf_glove (w := 0) (by decide)) (rfl) (by omega) (by decide) dX0_mostBy_8 ?_
  refine lv_iload_n hx hb dX0_mostBy_9 rfl (lv_at hl 1 rfl) ?_
  refine n_iald (k := k) hx hb hK hI (cf_row (w := 0) (r := r) (by decide) (by omega)) (rfl) (by omega) (by decide) dX0_mostBy_10 ?_
  refine lv_istore (lv' := [(5, .int (x.1 0 (2 + r) k)), (0, .ref (L 44)), (1, .int (nI k)), (2, .int (nI r)), (3, .int (nI many)), (4, .int (nI n))]) hx hb dX0_mostBy_11 hl (by decide) rfl (fun ls hl => ?_)
  refine lv_iconst (v := 0) hx hb dX0_mostBy_13 (by decide) ?_
  refine lv_istore (lv' := [(6, .int 0), (5, .int (x.1 0 (2 + r) k)), (0, .ref (L 44)), (1, .int (nI k)), (2, .int (nI r)), (3, .int (nI many)), (4, .int (nI n))]) hx hb dX0_mostBy_14 hl (by decide) rfl (fun ls hl => ?_)
  refine lv_iconst (v := (-1)) hx hb dX0_mostBy_16 (by decide) ?_
  refine lv_istore (lv' := [(7, .int (-1)), (6, .int 0), (5, .int (x.1 0 (2 + r) k)), (0, .ref (L 44)), (1, .int (nI k)), (2, .int (nI r)), (3, .int (nI many)), (4, .int (nI n))]) hx hb dX0_mostBy_17 hl (by decide) rfl (fun ls hl => ?_)
  refine lv_iconst (v := 0) hx hb dX0_mostBy_19 (by decide) ?_
  refine lv_istore (lv' := [(8, .int 0), (7, .int (-1)), (6, .int 0), (5, .int (x.1 0 (2 + r) k)), (0, .ref (L 44)), (1, .int (nI k)), (2, .int (nI r)), (3, .int (nI many)), (4, .int (nI n))]) hx hb dX0_mostBy_20 hl (by decide) rfl (fun ls hl => ?_)
  have lp22 : ∀ (fuel : Nat) (a : wd) (g : wd) (i : Nat), (i ≤ many) → (∀ v, u2 g (2 + r) k v = u2 (x.1 0) (2 + r) k v) → many - i < fuel → ∀ (v6 : Int32) (v7 : Int32) (v8 : Int32), v6 = (itr (mbS (x.1 0) k r n) (0, -1) i).1 → v7 = (itr (mbS (x.1 0) k r n) (0, -1) i).2 → v8 = nI i → ∀ (xc22 : cst), xc22 = xs (xs x 2 a) 0 g → ∀ (H : Heap) (locs : List Loc), hw D (cfC D L xc22) A H → va_S A s.heap H locs → ∀ (ls : Array Slot), lv_has ls 10 [(0, .ref (L 44)), (1, .int (nI k)), (2, .int (nI r)), (3, .int (nI many)), (4, .int (nI n)), (5, .int (x.1 0 (2 + r) k)), (6, .int v6), (7, .int v7), (8, .int v8)] → W p l e ({ frames := 8, cells := 0, slots := 0, locals := 177 } : Room) s m ([.ref (L 44), .int (nI k), .int (nI r), .int (nI many), .int (nI n)] : List Value).toArray below meth c H locs 0 0 (MQ below (jQ D L x A (some (.int (mbI (x.1 0) k r many n)))) ([.ref (L 44), .int (nI k), .int (nI r), .int (nI many), .int (nI n)] : List Value).toArray s 0 0 A) (F0 m 22 ls []) := by
    intro fuel
    induction fuel with
    | zero => intro a g i hi hg hf; exact absurd hf (Nat.not_lt_zero _)
    | succ fuel ih22 =>
      intro a g i hi hg hf22 v6 v7 v8 e6 e7 e8  xc22 exc22 H locs hI hS ls hl
      subst e6 e7 e8
      refine lv_iload hx hb dX0_mostBy_22 (lv_at hl 8 rfl) ?_
      refine lv_iload_n hx hb dX0_mostBy_24 rfl (lv_at hl 3 rfl) ?_
      refine lv_icmp_ge (tgt := 85) hx hb dX0_mostBy_25 (by decide) (fun c_25 => ?_) (fun c_25 => ?_)
      · skip
        have c_25 : many ≤ i := (nle (a := many) (b := i) (rfl) (rfl) (by omega) (by omega)).mp c_25
        refine lv_aload_n hx hb dX0_mostBy_85 rfl (lv_at hl 0 rfl) ?_
        refine r_get (C := RX0) (T := TX0) (N := 11) hx hb hts in_X0 hown hK hI (cf_main) rfl 3 (by decide) (hts _ q401) (fun _ h => h) rfl dX0_mostBy_86 ?_
        refine r_getN (C := RX4) (T := TX4) (N := 7) hx hb hts in_X4 hown hK hI (cf_W (w := 0) (by decide)) rfl 2 (by decide) (nf_7 hK) (fun _ h => h) rfl dX0_mostBy_89 ?_
        refine lv_iload_n hx hb dX0_mostBy_92 rfl (lv_at hl 2 rfl) ?_
        refine n_aaldI (f := fun r => L (11 * 0 + 3 + r)) (k := r) hx hb hK hI (cf_glove (w := 0) (by decide)) (rfl) (by omega) (by decide) dX0_mostBy_93 ?_
        refine lv_iload_n hx hb dX0_mostBy_94 rfl (lv_at hl 1 rfl) ?_
        refine lv_iload hx hb dX0_mostBy_95 (lv_at hl 5 rfl) ?_
        obtain ⟨x1, ex1⟩ : ∃ z, z = xs xc22 0 (u2 (xc22.1 0) (2 + r) k (x.1 0 (2 + r) k)) := ⟨_, rfl⟩
        refine n_iast (cf' := cfC D L x1) (k := k) hx hb hK hI hS (cf_row (w := 0) (r := r) (by decide) (by omega)) (rfl) (by omega) (by decide) (by rw [ex1]; exact cs_row (w := 0) (r := r) (by decide) (by omega)) dX0_mostBy_97 (fun H1 locs1 hI hS => ?_)
        refine lv_iload hx hb dX0_mostBy_98 (lv_at hl 6 rfl) ?_
        exact W.iret hx hb hr (fun t ht _ => ⟨rI (by rw [mbI, show i = many by omega]), ⟨x1, (by rw [ex1, exc22]; simp only [xs_at, xs_xs, hg, u2_self]; exact jk_ag _ _), by rw [ht]; exact hI⟩, hS.F ht⟩) hS.2.2 dX0_mostBy_100
      · skip
        have c_25 : ¬ many ≤ i := fun z => c_25 ((nle (a := many) (b := i) (rfl) (rfl) (by omega) (by omega)).mpr z)
        refine lv_aload_n hx hb dX0_mostBy_28 rfl (lv_at hl 0 rfl) ?_
        refine r_get (C := RX0) (T := TX0) (N := 11) hx hb hts in_X0 hown hK hI (cf_main) rfl 3 (by decide) (hts _ q401) (fun _ h => h) rfl dX0_mostBy_29 ?_
        refine r_getN (C := RX4) (T := TX4) (N := 7) hx hb hts in_X4 hown hK hI (cf_W (w := 0) (by decide)) rfl 2 (by decide) (nf_7 hK) (fun _ h => h) rfl dX0_mostBy_32 ?_
        refine lv_iload_n hx hb dX0_mostBy_35 rfl (lv_at hl 2 rfl) ?_
        refine n_aaldI (f := fun r => L (11 * 0 + 3 + r)) (k := r) hx hb hK hI (cf_glove (w := 0) (by decide)) (rfl) (by omega) (by decide) dX0_mostBy_36 ?_
        refine lv_iload_n hx hb dX0_mostBy_37 rfl (lv_at hl 1 rfl) ?_
        refine lv_iload hx hb dX0_mostBy_38 (lv_at hl 8 rfl) ?_
        obtain ⟨x2, ex2⟩ : ∃ z, z = xs xc22 0 (u2 (xc22.1 0) (2 + r) k (nI i)) := ⟨_, rfl⟩
        refine n_iast (cf' := cfC D L x2) (k := k) hx hb hK hI hS (cf_row (w := 0) (r := r) (by decide) (by omega)) (rfl) (by omega) (by decide) (by rw [ex2]; exact cs_row (w := 0) (r := r) (by decide) (by omega)) dX0_mostBy_40 (fun H1 locs1 hI hS => ?_)
        have hx1 : x2.1 0 = u2 (x.1 0) (2 + r) k (nI i) := by rw [ex2, xs_at, exc22, xs_at]; exact hg _
        have hO_x2 : wOk (x2.1 0) := by rw [hx1]; exact wOk_mr hO hrm (by omega)
        have hd_x2 : isN (x2.1 0 1 2) 10000 := by rw [hx1, u2_ne (by omega)]; exact hd
        refine lv_aload_n hx hb dX0_mostBy_41 rfl (lv_at hl 0 rfl) ?_
        refine lv_iload_n hx hb dX0_mostBy_42 rfl (lv_at hl 1 rfl) ?_
        refine lv_iconst (v := 5) hx hb dX0_mostBy_43 (by decide) ?_
        refine lv_iload hx hb dX0_mostBy_44 (lv_at hl 4 rfl) ?_
        refine c_m (k_VW (n := 3) (As := [.int (nI k), .int 5, .int (nI n)]) (rest := []) F (k_X0_toldBehind x2 (hO_x2) (hd_x2) k 5 n (by omega) (by omega) (by omega)) ⟨rfl, rfl⟩ ⟨Nat.le_of_ble_eq_true rfl, Nat.le_of_ble_eq_true rfl⟩ q772 q774 qs11 q91 q775 (by decide +kernel) hI hK (hw.recv hI hK (cf_main) rfl) rfl hl.1 rfl (Nat.le_of_ble_eq_true rfl) dX0_mostBy_46 ⟨Nat.le_of_ble_eq_true rfl, Nat.le_of_ble_eq_true rfl⟩) hS (fun H1 locs1 hI hS => ?_)
        obtain ⟨x3, ex3⟩ : ∃ z, z = xs x2 2 (x2.1 0) := ⟨_, rfl⟩
        rw [← ex3] at hI
        refine c_r (k_S (As := [.int (tbI (x2.1 0) k 5 n)]) (rest := []) F (k_X0_ones (tbI (x2.1 0) k 5 n)) (va_cwS 1 hts (lw_S q809 q734 q91 q735) rfl rfl rfl (by decide +kernel) ⟨Nat.le_of_ble_eq_true rfl, Nat.le_of_ble_eq_true rfl⟩) rfl hl.1 rfl (Nat.le_of_ble_eq_true rfl) dX0_mostBy_49 ⟨Nat.le_of_ble_eq_true rfl, Nat.le_of_ble_eq_true rfl⟩) ?_
        refine lv_istore (lv' := [(9, .int (bcI (tbI (x2.1 0) k 5 n))), (0, .ref (L 44)), (1, .int (nI k)), (2, .int (nI r)), (3, .int (nI many)), (4, .int (nI n)), (5, .int (x.1 0 (2 + r) k)), (6, .int ((itr (mbS (x.1 0) k r n) (0, -1) i).1)), (7, .int ((itr (mbS (x.1 0) k r n) (0, -1) i).2)), (8, .int (nI i))]) hx hb dX0_mostBy_52 hl (by decide) rfl (fun ls hl => ?_)
        refine lv_iload hx hb dX0_mostBy_54 (lv_at hl 0 rfl) ?_
        refine lv_iload hx hb dX0_mostBy_56 (lv_at hl 8 rfl) ?_
        refine lv_icmp_le (tgt := 66) hx hb dX0_mostBy_58 (by decide) (fun c_58 => ?_) (fun c_58 => ?_)
        · skip
          have c_58 := Int32.not_lt.mpr c_58
          refine lv_iload hx hb dX0_mostBy_66 (lv_at hl 7 rfl) ?_
          refine lv_istore (lv' := [(6, .int ((itr (mbS (x.1 0) k r n) (0, -1) i).1)), (9, .int (bcI (tbI (x2.1 0) k 5 n))), (0, .ref (L 44)), (1, .int (nI k)), (2, .int (nI r)), (3, .int (nI many)), (4, .int (nI n)), (5, .int (x.1 0 (2 + r) k)), (7, .int ((itr (mbS (x.1 0) k r n) (0, -1) i).2)), (8, .int (nI i))]) hx hb dX0_mostBy_68 hl (by decide) rfl (fun ls hl => ?_)
          refine lv_iload hx hb dX0_mostBy_70 (lv_at hl 8 rfl) ?_
          refine lv_iload hx hb dX0_mostBy_72 (lv_at hl 1 rfl) ?_
          refine va_mmax hx hb (by rw [hml]; exact hl.1.symm) hown (hts _ q728) (hts _ q595) (hts _ q108) (hts _ q596) (Nat.le_of_ble_eq_true rfl) (Nat.le_of_ble_eq_true rfl) (Nat.le_of_ble_eq_true rfl) (Nat.le_of_ble_eq_true rfl) dX0_mostBy_74 ?_
          refine lv_istore (lv' := [(7, .int (if ((itr (mbS (x.1 0) k r n) (0, -1) i).2) < (bcI (tbI (x2.1 0) k 5 n)) then (bcI (tbI (x2.1 0) k 5 n)) else ((itr (mbS (x.1 0) k r n) (0, -1) i).2))), (6, .int ((itr (mbS (x.1 0) k r n) (0, -1) i).1)), (9, .int (bcI (tbI (x2.1 0) k 5 n))), (0, .ref (L 44)), (1, .int (nI k)), (2, .int (nI r)), (3, .int (nI many)), (4, .int (nI n)), (5, .int (x.1 0 (2 + r) k)), (8, .int (nI i))]) hx hb dX0_mostBy_77 hl (by decide) rfl (fun ls hl => ?_)
          refine lv_iinc (v := (nI (i + 1))) (lv' := [(8, .int (nI (i + 1))), (7, .int (if ((itr (mbS (x.1 0) k r n) (0, -1) i).2) < (bcI (tbI (x2.1 0) k 5 n)) then (bcI (tbI (x2.1 0) k 5 n)) else ((itr (mbS (x.1 0) k r n) (0, -1) i).2))), (6, .int ((itr (mbS (x.1 0) k r n) (0, -1) i).1)), (9, .int (bcI (tbI (x2.1 0) k 5 n))), (0, .ref (L 44)), (1, .int (nI k)), (2, .int (nI r)), (3, .int (nI many)), (4, .int (nI n)), (5, .int (x.1 0 (2 + r) k))]) hx hb dX0_mostBy_79 hl (k := 9) rfl (nI_1 _) (by decide) rfl (fun ls hl => ?_)
          refine lv_goto (tgt := 22) hx hb dX0_mostBy_82 (by decide) ?_
          exact ih22 (u2 g (2 + r) k (nI i)) (u2 g (2 + r) k (nI i)) (i + 1) (by omega) (fun v => by rw [u2_u2, hg]) (by omega) ((itr (mbS (x.1 0) k r n) (0, -1) i).1) (if ((itr (mbS (x.1 0) k r n) (0, -1) i).2) < (bcI (tbI (x2.1 0) k 5 n)) then (bcI (tbI (x2.1 0) k 5 n)) else ((itr (mbS (x.1 0) k r n) (0, -1) i).2)) (nI (i + 1)) (by rw [hx1] at c_58; simp only [itr_s, mbS, if_neg c_25, if_neg c_58]) (by rw [hx1]; simp only [itr_s, mbS, mxI]) (rfl) x3 (by rw [ex3, ex2, exc22]; simp only [xs_at, xs_xs]; rw [xs_comm, xs_xs]) _ _ hI hS ls (lv_sub hl [4, 5, 6, 7, 8, 9, 2, 1, 0] rfl)
        · skip
          have c_58 := Int32.not_le.mp c_58
          refine lv_iload hx hb dX0_mostBy_61 (lv_at hl 9 rfl) ?_
          refine lv_goto (tgt := 68) hx hb dX0_mostBy_63 (by decide) ?_
          refine lv_istore (lv' := [(6, .int (nI i)), (9, .int (bcI (tbI (x2.1 0) k 5 n))), (0, .ref (L 44)), (1, .int (nI k)), (2, .int (nI r)), (3, .int (nI many)), (4, .int (nI n)), (5, .int (x.1 0 (2 + r) k)), (7, .int ((itr (mbS (x.1 0) k r n) (0, -1) i).2)), (8, .int (nI i))]) hx hb dX0_mostBy_68 hl (by decide) rfl (fun ls hl => ?_)
          refine lv_iload hx hb dX0_mostBy_70 (lv_at hl 8 rfl) ?_
          refine lv_iload hx hb dX0_mostBy_72 (lv_at hl 1 rfl) ?_
          refine va_mmax hx hb (by rw [hml]; exact hl.1.symm) hown (hts _ q728) (hts _ q595) (hts _ q108) (hts _ q596) (Nat.le_of_ble_eq_true rfl) (Nat.le_of_ble_eq_true rfl) (Nat.le_of_ble_eq_true rfl) (Nat.le_of_ble_eq_true rfl) dX0_mostBy_74 ?_
          refine lv_istore (lv' := [(7, .int (if ((itr (mbS (x.1 0) k r n) (0, -1) i).2) < (bcI (tbI (x2.1 0) k 5 n)) then (bcI (tbI (x2.1 0) k 5 n)) else ((itr (mbS (x.1 0) k r n) (0, -1) i).2))), (6, .int (nI i)), (9, .int (bcI (tbI (x2.1 0) k 5 n))), (0, .ref (L 44)), (1, .int (nI k)), (2, .int (nI r)), (3, .int (nI many)), (4, .int (nI n)), (5, .int (x.1 0 (2 + r) k)), (8, .int (nI i))]) hx hb dX0_mostBy_77 hl (by decide) rfl (fun ls hl => ?_)
          refine lv_iinc (v := (nI (i + 1))) (lv' := [(8, .int (nI (i + 1))), (7, .int (if ((itr (mbS (x.1 0) k r n) (0, -1) i).2) < (bcI (tbI (x2.1 0) k 5 n)) then (bcI (tbI (x2.1 0) k 5 n)) else ((itr (mbS (x.1 0) k r n) (0, -1) i).2))), (6, .int (nI i)), (9, .int (bcI (tbI (x2.1 0) k 5 n))), (0, .ref (L 44)), (1, .int (nI k)), (2, .int (nI r)), (3, .int (nI many)), (4, .int (nI n)), (5, .int (x.1 0 (2 + r) k))]) hx hb dX0_mostBy_79 hl (k := 9) rfl (nI_1 _) (by decide) rfl (fun ls hl => ?_)
          refine lv_goto (tgt := 22) hx hb dX0_mostBy_82 (by decide) ?_
          exact ih22 (u2 g (2 + r) k (nI i)) (u2 g (2 + r) k (nI i)) (i + 1) (by omega) (fun v => by rw [u2_u2, hg]) (by omega) (nI i) (if ((itr (mbS (x.1 0) k r n) (0, -1) i).2) < (bcI (tbI (x2.1 0) k 5 n)) then (bcI (tbI (x2.1 0) k 5 n)) else ((itr (mbS (x.1 0) k r n) (0, -1) i).2)) (nI (i + 1)) (by rw [hx1] at c_58; simp only [itr_s, mbS, if_neg c_25, if_pos c_58]) (by rw [hx1]; simp only [itr_s, mbS, mxI]) (rfl) x3 (by rw [ex3, ex2, exc22]; simp only [xs_at, xs_xs]; rw [xs_comm, xs_xs]) _ _ hI hS ls (lv_sub hl [4, 5, 6, 7, 8, 9, 2, 1, 0] rfl)
  exact lp22 (_ + 1) (x.1 2) (x.1 0) (0) (Nat.zero_le _) (fun _ => rfl) (Nat.lt_succ_self _) 0 (-1) 0 (rfl) (rfl) (rfl) x (by rw [xs_self, xs_self]) _ _ hI hS ls (lv_sub hl [4, 5, 6, 7, 8, 3, 2, 1, 0] rfl)
theorem k_X0_leastOpen {l : Launch} {D : va_G} {L : Nat → Nat} {A : Nat → Prop} (x : cst) (hO : wOk (x.1 0)) (hd : isN (x.1 0 1 2) 10000) (k : Nat) (v : Int32) (n : Nat) (hk : k < 8) (hn : n ≤ 1000) : Met l yX0_leastOpen (ws_ yX0_leastOpen cX0_leastOpen 7 (some .int)) ({ frames := 8, cells := 0, slots := 0, locals := 177 } : Room) (va_Pc [.ref (L 44), .int (nI k), .int v, .int (nI n)] (pI D (cfC D L x) A)) (jQ D L x A (some (.int (loI (x.1 0) k v n)))) 0 0 A := by
  refine met_I (by decide) rfl (Nat.le_of_ble_eq_true rfl) ?_
  intro p e s m below meth c ls hx hb hr hml hown hts hlocks hl hI hK
  have F : CallFix p m c cX0_leastOpen 7 s _ lw_all RX0 := ⟨hx, hb, hml, hown, hts⟩
  have hl : lv_has ls 7 [(0, .ref (L 44)), (1, .int (nI k)), (2, .int v), (3, .int (nI n))] := hl
  have hS : va_S A s.heap s.heap [] := va_S.rf
  refine lv_aload_n hx hb dX0_leastOpen_0 rfl (lv_at hl 0 rfl) ?_
  refine r_get (C := RX0) (T := TX0) (N := 11) hx hb hts in_X0 hown hK hI (cf_main) rfl 3 (by decide) (hts _ q401) (fun _ h => h) rfl dX0_leastOpen_1 ?_
  refine r_getN (C := RX4) (T := TX4) (N := 7) hx hb hts in_X4 hown hK hI (cf_W (w := 0) (by decide)) rfl 2 (by decide) (nf_7 hK) (fun _ h => h) rfl dX0_leastOpen_4 ?_
  refine lv_iconst (v := 2) hx hb dX0_leastOpen_7 (by decide) ?_
  refine n_aaldI (f := fun r => L (11 * 0 + 3 + r)) (k := 2) hx hb hK hI (cf_glove (w := 0) (by decide)) (rfl) (by decide) (by decide) dX0_leastOpen_8 ?_
  refine lv_iload_n hx hb dX0_leastOpen_9 rfl (lv_at hl 1 rfl) ?_
  refine n_iald (k := k) hx hb hK hI (cf_row (w := 0) (r := 2) (by decide) (by decide)) (rfl) (by omega) (by decide) dX0_leastOpen_10 ?_
  refine lv_istore (lv' := [(4, .int (x.1 0 (2 + 2) k)), (0, .ref (L 44)), (1, .int (nI k)), (2, .int v), (3, .int (nI n))]) hx hb dX0_leastOpen_11 hl (by decide) rfl (fun ls hl => ?_)
  refine lv_iconst (v := (-1)) hx hb dX0_leastOpen_13 (by decide) ?_
  refine lv_istore (lv' := [(5, .int (-1)), (4, .int (x.1 0 (2 + 2) k)), (0, .ref (L 44)), (1, .int (nI k)), (2, .int v), (3, .int (nI n))]) hx hb dX0_leastOpen_14 hl (by decide) rfl (fun ls hl => ?_)
  refine lv_bipush (v := 9) hx hb dX0_leastOpen_16 (by decide) ?_
  refine lv_istore (lv' := [(6, .int 9), (5, .int (-1)), (4, .int (x.1 0 (2 + 2) k)), (0, .ref (L 44)), (1, .int (nI k)), (2, .int v), (3, .int (nI n))]) hx hb dX0_leastOpen_18 hl (by decide) rfl (fun ls hl => ?_)
  have lp20 : ∀ (fuel : Nat) (a : wd) (g : wd) (j : Nat) (b : Int32), (j ≤ 10) → (∀ v, u2 g (2 + 2) k v = u2 (x.1 0) (2 + 2) k v) → (loI (x.1 0) k v n = loR (x.1 0) k v n j b) → j < fuel → ∀ (v5 : Int32) (v6 : Int32), v5 = b → v6 = (nI j - 1) → ∀ (xc20 : cst), xc20 = xs (xs x 2 a) 0 g → ∀ (H : Heap) (locs : List Loc), hw D (cfC D L xc20) A H → va_S A s.heap H locs → ∀ (ls : Array Slot), lv_has ls 7 [(0, .ref (L 44)), (1, .int (nI k)), (2, .int v), (3, .int (nI n)), (4, .int (x.1 0 (2 + 2) k)), (5, .int v5), (6, .int v6)] → W p l e ({ frames := 8, cells := 0, slots := 0, locals := 177 } : Room) s m ([.ref (L 44), .int (nI k), .int v, .int (nI n)] : List Value).toArray below meth c H locs 0 0 (MQ below (jQ D L x A (some (.int (loI (x.1 0) k v n)))) ([.ref (L 44), .int (nI k), .int v, .int (nI n)] : List Value).toArray s 0 0 A) (F0 m 20 ls []) := by
    intro fuel
    induction fuel with
    | zero => intro a g j b hj hg hL hf; exact absurd hf (Nat.not_lt_zero _)
    | succ fuel ih20 =>
      intro a g j b hj hg hL hf20 v5 v6 e5 e6  xc20 exc20 H locs hI hS ls hl
      have e5 := e5.symm
      subst e5 e6
      refine lv_iload hx hb dX0_leastOpen_20 (lv_at hl 6 rfl) ?_
      refine lv_if_lt (tgt := 67) hx hb dX0_leastOpen_22 (by decide) (fun c_22 => ?_) (fun c_22 => ?_)
      · skip
        have hj0 : j = 0 := (pred_lt (by omega)).mp c_22
        refine lv_aload_n hx hb dX0_leastOpen_67 rfl (lv_at hl 0 rfl) ?_
        refine r_get (C := RX0) (T := TX0) (N := 11) hx hb hts in_X0 hown hK hI (cf_main) rfl 3 (by decide) (hts _ q401) (fun _ h => h) rfl dX0_leastOpen_68 ?_
        refine r_getN (C := RX4) (T := TX4) (N := 7) hx hb hts in_X4 hown hK hI (cf_W (w := 0) (by decide)) rfl 2 (by decide) (nf_7 hK) (fun _ h => h) rfl dX0_leastOpen_71 ?_
        refine lv_iconst (v := 2) hx hb dX0_leastOpen_74 (by decide) ?_
        refine n_aaldI (f := fun r => L (11 * 0 + 3 + r)) (k := 2) hx hb hK hI (cf_glove (w := 0) (by decide)) (rfl) (by decide) (by decide) dX0_leastOpen_75 ?_
        refine lv_iload_n hx hb dX0_leastOpen_76 rfl (lv_at hl 1 rfl) ?_
        refine lv_iload hx hb dX0_leastOpen_77 (lv_at hl 4 rfl) ?_
        obtain ⟨x1, ex1⟩ : ∃ z, z = xs xc20 0 (u2 (xc20.1 0) (2 + 2) k (x.1 0 (2 + 2) k)) := ⟨_, rfl⟩
        refine n_iast (cf' := cfC D L x1) (k := k) hx hb hK hI hS (cf_row (w := 0) (r := 2) (by decide) (by decide)) (rfl) (by omega) (by decide) (by rw [ex1]; exact cs_row (w := 0) (r := 2) (by decide) (by decide)) dX0_leastOpen_79 (fun H1 locs1 hI hS => ?_)
        refine lv_iload hx hb dX0_leastOpen_80 (lv_at hl 5 rfl) ?_
        exact W.iret hx hb hr (fun t ht _ => ⟨rI (by rw [hL, hj0]; rfl), ⟨x1, (by rw [ex1, exc20]; simp only [xs_at, xs_xs, hg, u2_self]; exact jk_ag _ _), by rw [ht]; exact hI⟩, hS.F ht⟩) hS.2.2 dX0_leastOpen_82
      · skip
        have hj0 : 0 < j := by have := mt (pred_lt (j := j) (by omega)).mpr c_22; omega
        have hq : nI j - 1 = nI (j - 1) := pred_s hj0
        refine lv_aload_n hx hb dX0_leastOpen_25 rfl (lv_at hl 0 rfl) ?_
        refine r_get (C := RX0) (T := TX0) (N := 11) hx hb hts in_X0 hown hK hI (cf_main) rfl 3 (by decide) (hts _ q401) (fun _ h => h) rfl dX0_leastOpen_26 ?_
        refine r_getN (C := RX4) (T := TX4) (N := 7) hx hb hts in_X4 hown hK hI (cf_W (w := 0) (by decide)) rfl 2 (by decide) (nf_7 hK) (fun _ h => h) rfl dX0_leastOpen_29 ?_
        refine lv_iconst (v := 2) hx hb dX0_leastOpen_32 (by decide) ?_
        refine n_aaldI (f := fun r => L (11 * 0 + 3 + r)) (k := 2) hx hb hK hI (cf_glove (w := 0) (by decide)) (rfl) (by decide) (by decide) dX0_leastOpen_33 ?_
        refine lv_iload_n hx hb dX0_leastOpen_34 rfl (lv_at hl 1 rfl) ?_
        refine lv_iload hx hb dX0_leastOpen_35 (lv_at hl 6 rfl) ?_
        obtain ⟨x2, ex2⟩ : ∃ z, z = xs xc20 0 (u2 (xc20.1 0) (2 + 2) k (nI j - 1)) := ⟨_, rfl⟩
        refine n_iast (cf' := cfC D L x2) (k := k) hx hb hK hI hS (cf_row (w := 0) (r := 2) (by decide) (by decide)) (rfl) (by omega) (by decide) (by rw [ex2]; exact cs_row (w := 0) (r := 2) (by decide) (by decide)) dX0_leastOpen_37 (fun H1 locs1 hI hS => ?_)
        have hx1 : x2.1 0 = u2 (x.1 0) (2 + 2) k (nI j - 1) := by rw [ex2, xs_at, exc20, xs_at]; exact hg _
        have hO_x2 : wOk (x2.1 0) := by rw [hx1, hq]; exact wOk_m2 hO (by omega)
        have hd_x2 : isN (x2.1 0 1 2) 10000 := by rw [hx1, u2_ne (by omega)]; exact hd
        refine lv_aload_n hx hb dX0_leastOpen_38 rfl (lv_at hl 0 rfl) ?_
        refine lv_iload_n hx hb dX0_leastOpen_39 rfl (lv_at hl 1 rfl) ?_
        refine lv_iconst (v := 5) hx hb dX0_leastOpen_40 (by decide) ?_
        refine lv_iload_n hx hb dX0_leastOpen_41 rfl (lv_at hl 3 rfl) ?_
        refine c_m (k_VW (n := 3) (As := [.int (nI k), .int 5, .int (nI n)]) (rest := []) F (k_X0_toldBehind x2 (hO_x2) (hd_x2) k 5 n (by omega) (by omega) (by omega)) ⟨rfl, rfl⟩ ⟨Nat.le_of_ble_eq_true rfl, Nat.le_of_ble_eq_true rfl⟩ q772 q774 qs11 q91 q775 (by decide +kernel) hI hK (hw.recv hI hK (cf_main) rfl) rfl hl.1 rfl (Nat.le_of_ble_eq_true rfl) dX0_leastOpen_42 ⟨Nat.le_of_ble_eq_true rfl, Nat.le_of_ble_eq_true rfl⟩) hS (fun H1 locs1 hI hS => ?_)
        obtain ⟨x3, ex3⟩ : ∃ z, z = xs x2 2 (x2.1 0) := ⟨_, rfl⟩
        rw [← ex3] at hI
        refine c_r (k_S (As := [.int (tbI (x2.1 0) k 5 n)]) (rest := []) F (k_X0_ones (tbI (x2.1 0) k 5 n)) (va_cwS 1 hts (lw_S q809 q734 q91 q735) rfl rfl rfl (by decide +kernel) ⟨Nat.le_of_ble_eq_true rfl, Nat.le_of_ble_eq_true rfl⟩) rfl hl.1 rfl (Nat.le_of_ble_eq_true rfl) dX0_leastOpen_45 ⟨Nat.le_of_ble_eq_true rfl, Nat.le_of_ble_eq_true rfl⟩) ?_
        refine lv_iload_n hx hb dX0_leastOpen_48 rfl (lv_at hl 2 rfl) ?_
        refine lv_icmp_lt (tgt := 57) hx hb dX0_leastOpen_49 (by decide) (fun c_49 => ?_) (fun c_49 => ?_)
        · skip
          refine lv_iload hx hb dX0_leastOpen_57 (lv_at hl 5 rfl) ?_
          refine lv_istore (lv' := [(5, .int b), (0, .ref (L 44)), (1, .int (nI k)), (2, .int v), (3, .int (nI n)), (4, .int (x.1 0 (2 + 2) k)), (6, .int (nI j - 1))]) hx hb dX0_leastOpen_59 hl (by decide) rfl (fun ls hl => ?_)
          refine lv_iinc (v := ((nI j - 1) + (-1))) (lv' := [(6, .int ((nI j - 1) + (-1))), (5, .int b), (0, .ref (L 44)), (1, .int (nI k)), (2, .int v), (3, .int (nI n)), (4, .int (x.1 0 (2 + 2) k))]) hx hb dX0_leastOpen_61 hl (k := 6) rfl (rfl) (by decide) rfl (fun ls hl => ?_)
          refine lv_goto (tgt := 20) hx hb dX0_leastOpen_64 (by decide) ?_
          exact ih20 (u2 g (2 + 2) k (nI j - 1)) (u2 g (2 + 2) k (nI j - 1)) (j - 1) (b) (by omega) (fun v => by rw [u2_u2, hg]) (by rw [hL, loR_s (by omega)]; rw [hx1, hq] at c_49; first | (rw [if_pos c_49]; done) | (rw [if_neg c_49, hq]; done)) (by omega) b ((nI j - 1) + (-1)) (rfl) (by rw [hq, Int32.sub_eq_add_neg]) x3 (by rw [ex3, ex2, exc20]; simp only [xs_at, xs_xs]; rw [xs_comm, xs_xs]) _ _ hI hS ls (lv_sub hl [2, 3, 4, 5, 6, 1, 0] rfl)
        · skip
          refine lv_iload hx hb dX0_leastOpen_52 (lv_at hl 6 rfl) ?_
          refine lv_goto (tgt := 59) hx hb dX0_leastOpen_54 (by decide) ?_
          refine lv_istore (lv' := [(5, .int (nI j - 1)), (0, .ref (L 44)), (1, .int (nI k)), (2, .int v), (3, .int (nI n)), (4, .int (x.1 0 (2 + 2) k)), (6, .int (nI j - 1))]) hx hb dX0_leastOpen_59 hl (by decide) rfl (fun ls hl => ?_)
          refine lv_iinc (v := ((nI j - 1) + (-1))) (lv' := [(6, .int ((nI j - 1) + (-1))), (5, .int (nI j - 1)), (0, .ref (L 44)), (1, .int (nI k)), (2, .int v), (3, .int (nI n)), (4, .int (x.1 0 (2 + 2) k))]) hx hb dX0_leastOpen_61 hl (k := 6) rfl (rfl) (by decide) rfl (fun ls hl => ?_)
          refine lv_goto (tgt := 20) hx hb dX0_leastOpen_64 (by decide) ?_
          exact ih20 (u2 g (2 + 2) k (nI j - 1)) (u2 g (2 + 2) k (nI j - 1)) (j - 1) ((nI j - 1)) (by omega) (fun v => by rw [u2_u2, hg]) (by rw [hL, loR_s (by omega)]; rw [hx1, hq] at c_49; first | (rw [if_pos c_49]; done) | (rw [if_neg c_49, hq]; done)) (by omega) (nI j - 1) ((nI j - 1) + (-1)) (rfl) (by rw [hq, Int32.sub_eq_add_neg]) x3 (by rw [ex3, ex2, exc20]; simp only [xs_at, xs_xs]; rw [xs_comm, xs_xs]) _ _ hI hS ls (lv_sub hl [2, 3, 4, 5, 6, 1, 0] rfl)
  exact lp20 (_ + 1) (x.1 2) (x.1 0) (10) (-1) (by decide) (fun _ => rfl) (rfl) (Nat.lt_succ_self _) (-1) 9 (rfl) (rfl) x (by rw [xs_self, xs_self]) _ _ hI hS ls (lv_sub hl [3, 4, 5, 6, 2, 1, 0] rfl)
theorem k_X0_leave {l : Launch} {D : va_G} {L : Nat → Nat} {A : Nat → Prop} (x : cst) (hO : wOk (x.1 0)) (hd : isN (x.1 0 1 2) 10000) (g n : Int32) : Met l yX0_leave (ws_ yX0_leave cX0_leave 3 (some .int)) ({ frames := 9, cells := 0, slots := 0, locals := 206 } : Room) (va_Pc [.ref (L 44), .int g, .int n] (pI D (cfC D L x) A)) (jQ D L (aC x (a_leave (x.1 0) g n)) A (some (.int (aR (a_leave (x.1 0) g n))))) 0 0 A := by
  refine met_I (by decide) rfl (Nat.le_of_ble_eq_true rfl) ?_
  intro p e s m below meth c ls hx hb hr hml hown hts hlocks hl hI hK
  have F : CallFix p m c cX0_leave 3 s _ lw_all RX0 := ⟨hx, hb, hml, hown, hts⟩
  have hl : lv_has ls 3 [(0, .ref (L 44)), (1, .int g), (2, .int n)] := hl
  have hS : va_S A s.heap s.heap [] := va_S.rf
  obtain ⟨nn, hn, h8⟩ : ∃ n, x.1 0 1 0 = nI n ∧ n ≤ 8 := ⟨_, hO.n⟩
  have hN : wN (x.1 0) = nn := by unfold wN; rw [hn, nI_clamp (by omega)]
  refine lv_aload_n hx hb dX0_leave_0 rfl (lv_at hl 0 rfl) ?_
  refine lv_iload_n hx hb dX0_leave_1 rfl (lv_at hl 1 rfl) ?_
  refine lv_iload_n hx hb dX0_leave_2 rfl (lv_at hl 2 rfl) ?_
  refine c_r (k_V (As := [.int g, .int n]) (rest := []) F (k_X0_areOne x g n) (cwV 2 hts (lw_V q822 q824 qs16 q91 q825) rfl rfl rfl (by decide +kernel) ⟨Nat.le_of_ble_eq_true rfl, Nat.le_of_ble_eq_true rfl⟩) hI hK (hw.recv hI hK (cf_main) rfl) rfl hl.1 rfl (Nat.le_of_ble_eq_true rfl) dX0_leave_3 ⟨Nat.le_of_ble_eq_true rfl, Nat.le_of_ble_eq_true rfl⟩) ?_
  refine lv_if_eq (tgt := 21) hx hb dX0_leave_6 (by decide) (fun c_6 => ?_) (fun c_6 => ?_)
  · skip
    refine lv_aload_n hx hb dX0_leave_21 rfl (lv_at hl 0 rfl) ?_
    refine lv_iconst (v := 0) hx hb dX0_leave_22 (by decide) ?_
    refine c_m (k_V (As := [.int 0]) (rest := []) F (k_X0_finding x 0 (by decide)) (cwV 1 hts (lw_V q457 q459 qs2 q91 q460) rfl rfl rfl (by decide +kernel) ⟨Nat.le_of_ble_eq_true rfl, Nat.le_of_ble_eq_true rfl⟩) hI hK (hw.recv hI hK (cf_main) rfl) rfl hl.1 rfl (Nat.le_of_ble_eq_true rfl) dX0_leave_23 ⟨Nat.le_of_ble_eq_true rfl, Nat.le_of_ble_eq_true rfl⟩) hS (fun H1 locs1 hI hS => ?_)
    obtain ⟨x1, ex1⟩ : ∃ z, z = (fnd x 0) := ⟨_, rfl⟩
    rw [← ex1] at hI
    exact W.iret hx hb hr (fun t ht _ => ⟨rI (by first | (simp only [a_leave, aR, if_pos c_6]; done) | (simp only [a_leave, aR_orN, if_pos c_6]; done) | (simp [a_leave, aR, c_6]; done)), ⟨x1, (by first | (simp only [a_leave, if_pos c_6]; rw [aC_orN, ex1]; exact jk_orC (by assumption) _) | (simp only [a_leave, aC, if_pos c_6, xs_self]; rw [ex1]; exact jk_a _ _) | (simp only [a_leave, if_pos c_6]; rw [aC_orN, ex1]; exact jk_orC (by first | exact jk_rfl | assumption) _) | (simp only [a_leave, aC, if_pos c_6, xs_self]; assumption) | (simp only [a_leave, if_pos c_6]; rw [aC_orN]; refine jk_eq ?_; rw [ex1]; done) | (simp only [a_leave, aC, if_pos c_6, xs_self]; refine jk_eq ?_; rw [ex1]; done)), by rw [ht]; exact hI⟩, hS.F ht⟩) hS.2.2 dX0_leave_26
  · skip
    obtain ⟨k, hk, eg⟩ := isGl_to hn h8 (ao_to c_6).1
    have eg2 : g.toNatClampNeg = k := by rw [eg, nI_clamp (by omega)]
    obtain ⟨j, hj, en⟩ := inI_to (b := 60) rfl (by decide) (ao_to c_6).2
    have en2 : n.toNatClampNeg = j := by rw [en, nI_clamp (by omega)]
    subst eg
    subst en
    refine lv_aload_n hx hb dX0_leave_9 rfl (lv_at hl 0 rfl) ?_
    refine lv_iload_n hx hb dX0_leave_10 rfl (lv_at hl 1 rfl) ?_
    refine lv_iconst (v := 1) hx hb dX0_leave_11 (by decide) ?_
    refine lv_bipush (v := 6) hx hb dX0_leave_12 (by decide) ?_
    refine lv_iload_n hx hb dX0_leave_14 rfl (lv_at hl 2 rfl) ?_
    refine c_j (k_V (As := [.int (nI k), .int 1, .int 6, .int (nI j)]) (rest := []) F (k_X0_mostBy x (hO) (hd) k 1 6 j (by omega) (by omega) (by omega)) (cwV 4 hts (lw_V q826 q828 qs17 q91 q829) rfl rfl rfl (by decide +kernel) ⟨Nat.le_of_ble_eq_true rfl, Nat.le_of_ble_eq_true rfl⟩) hI hK (hw.recv hI hK (cf_main) rfl) rfl hl.1 rfl (Nat.le_of_ble_eq_true rfl) dX0_leave_15 ⟨Nat.le_of_ble_eq_true rfl, Nat.le_of_ble_eq_true rfl⟩) hS (fun x2 H1 locs1 ex2 hI hS => ?_)
    refine lv_goto (tgt := 26) hx hb dX0_leave_18 (by decide) ?_
    exact W.iret hx hb hr (fun t ht _ => ⟨rI (by first | (simp only [a_leave, aR, if_neg c_6, eg2, en2]; done) | (simp only [a_leave, aR_orN, if_neg c_6, eg2, en2]; done) | (simp [a_leave, aR, c_6, eg2, en2]; done)), ⟨x2, (by first | (simp only [a_leave, if_neg c_6, eg2, en2]; rw [aC_orN, ex2]; exact jk_orC (by assumption) _) | (simp only [a_leave, aC, if_neg c_6, eg2, en2, xs_self]; rw [ex2]; exact jk_a _ _) | (simp only [a_leave, if_neg c_6, eg2, en2]; rw [aC_orN, ex2]; exact jk_orC (by first | exact jk_rfl | assumption) _) | (simp only [a_leave, aC, if_neg c_6, eg2, en2, xs_self]; assumption) | (simp only [a_leave, if_neg c_6, eg2, en2]; rw [aC_orN]; refine jk_eq ?_; rw [ex2]; done) | (simp only [a_leave, aC, if_neg c_6, eg2, en2, xs_self]; refine jk_eq ?_; rw [ex2]; done)), by rw [ht]; exact hI⟩, hS.F ht⟩) hS.2.2 dX0_leave_26
theorem k_X0_kindFor {l : Launch} {D : va_G} {L : Nat → Nat} {A : Nat → Prop} (x : cst) (hO : wOk (x.1 0)) (hd : isN (x.1 0 1 2) 10000) (g n : Int32) : Met l yX0_kindFor (ws_ yX0_kindFor cX0_kindFor 3 (some .int)) ({ frames := 9, cells := 0, slots := 0, locals := 206 } : Room) (va_Pc [.ref (L 44), .int g, .int n] (pI D (cfC D L x) A)) (jQ D L (aC x (a_kindFor (x.1 0) g n)) A (some (.int (aR (a_kindFor (x.1 0) g n))))) 0 0 A := by
  refine met_I (by decide) rfl (Nat.le_of_ble_eq_true rfl) ?_
  intro p e s m below meth c ls hx hb hr hml hown hts hlocks hl hI hK
  have F : CallFix p m c cX0_kindFor 3 s _ lw_all RX0 := ⟨hx, hb, hml, hown, hts⟩
  have hl : lv_has ls 3 [(0, .ref (L 44)), (1, .int g), (2, .int n)] := hl
  have hS : va_S A s.heap s.heap [] := va_S.rf
  obtain ⟨nn, hn, h8⟩ : ∃ n, x.1 0 1 0 = nI n ∧ n ≤ 8 := ⟨_, hO.n⟩
  have hN : wN (x.1 0) = nn := by unfold wN; rw [hn, nI_clamp (by omega)]
  refine lv_aload_n hx hb dX0_kindFor_0 rfl (lv_at hl 0 rfl) ?_
  refine lv_iload_n hx hb dX0_kindFor_1 rfl (lv_at hl 1 rfl) ?_
  refine lv_iload_n hx hb dX0_kindFor_2 rfl (lv_at hl 2 rfl) ?_
  refine c_r (k_V (As := [.int g, .int n]) (rest := []) F (k_X0_areOne x g n) (cwV 2 hts (lw_V q822 q824 qs16 q91 q825) rfl rfl rfl (by decide +kernel) ⟨Nat.le_of_ble_eq_true rfl, Nat.le_of_ble_eq_true rfl⟩) hI hK (hw.recv hI hK (cf_main) rfl) rfl hl.1 rfl (Nat.le_of_ble_eq_true rfl) dX0_kindFor_3 ⟨Nat.le_of_ble_eq_true rfl, Nat.le_of_ble_eq_true rfl⟩) ?_
  refine lv_if_eq (tgt := 21) hx hb dX0_kindFor_6 (by decide) (fun c_6 => ?_) (fun c_6 => ?_)
  · skip
    refine lv_aload_n hx hb dX0_kindFor_21 rfl (lv_at hl 0 rfl) ?_
    refine lv_iconst (v := 0) hx hb dX0_kindFor_22 (by decide) ?_
    refine c_m (k_V (As := [.int 0]) (rest := []) F (k_X0_finding x 0 (by decide)) (cwV 1 hts (lw_V q457 q459 qs2 q91 q460) rfl rfl rfl (by decide +kernel) ⟨Nat.le_of_ble_eq_true rfl, Nat.le_of_ble_eq_true rfl⟩) hI hK (hw.recv hI hK (cf_main) rfl) rfl hl.1 rfl (Nat.le_of_ble_eq_true rfl) dX0_kindFor_23 ⟨Nat.le_of_ble_eq_true rfl, Nat.le_of_ble_eq_true rfl⟩) hS (fun H1 locs1 hI hS => ?_)
    obtain ⟨x1, ex1⟩ : ∃ z, z = (fnd x 0) := ⟨_, rfl⟩
    rw [← ex1] at hI
    exact W.iret hx hb hr (fun t ht _ => ⟨rI (by first | (simp only [a_kindFor, aR, if_pos c_6]; done) | (simp only [a_kindFor, aR_orN, if_pos c_6]; done) | (simp [a_kindFor, aR, c_6]; done)), ⟨x1, (by first | (simp only [a_kindFor, if_pos c_6]; rw [aC_orN, ex1]; exact jk_orC (by assumption) _) | (simp only [a_kindFor, aC, if_pos c_6, xs_self]; rw [ex1]; exact jk_a _ _) | (simp only [a_kindFor, if_pos c_6]; rw [aC_orN, ex1]; exact jk_orC (by first | exact jk_rfl | assumption) _) | (simp only [a_kindFor, aC, if_pos c_6, xs_self]; assumption) | (simp only [a_kindFor, if_pos c_6]; rw [aC_orN]; refine jk_eq ?_; rw [ex1]; done) | (simp only [a_kindFor, aC, if_pos c_6, xs_self]; refine jk_eq ?_; rw [ex1]; done)), by rw [ht]; exact hI⟩, hS.F ht⟩) hS.2.2 dX0_kindFor_26
  · skip
    obtain ⟨k, hk, eg⟩ := isGl_to hn h8 (ao_to c_6).1
    have eg2 : g.toNatClampNeg = k := by rw [eg, nI_clamp (by omega)]
    obtain ⟨j, hj, en⟩ := inI_to (b := 60) rfl (by decide) (ao_to c_6).2
    have en2 : n.toNatClampNeg = j := by rw [en, nI_clamp (by omega)]
    subst eg
    subst en
    refine lv_aload_n hx hb dX0_kindFor_9 rfl (lv_at hl 0 rfl) ?_
    refine lv_iload_n hx hb dX0_kindFor_10 rfl (lv_at hl 1 rfl) ?_
    refine lv_iconst (v := 0) hx hb dX0_kindFor_11 (by decide) ?_
    refine lv_bipush (v := 7) hx hb dX0_kindFor_12 (by decide) ?_
    refine lv_iload_n hx hb dX0_kindFor_14 rfl (lv_at hl 2 rfl) ?_
    refine c_j (k_V (As := [.int (nI k), .int 0, .int 7, .int (nI j)]) (rest := []) F (k_X0_mostBy x (hO) (hd) k 0 7 j (by omega) (by omega) (by omega)) (cwV 4 hts (lw_V q826 q828 qs17 q91 q829) rfl rfl rfl (by decide +kernel) ⟨Nat.le_of_ble_eq_true rfl, Nat.le_of_ble_eq_true rfl⟩) hI hK (hw.recv hI hK (cf_main) rfl) rfl hl.1 rfl (Nat.le_of_ble_eq_true rfl) dX0_kindFor_15 ⟨Nat.le_of_ble_eq_true rfl, Nat.le_of_ble_eq_true rfl⟩) hS (fun x2 H1 locs1 ex2 hI hS => ?_)
    refine lv_goto (tgt := 26) hx hb dX0_kindFor_18 (by decide) ?_
    exact W.iret hx hb hr (fun t ht _ => ⟨rI (by first | (simp only [a_kindFor, aR, if_neg c_6, eg2, en2]; done) | (simp only [a_kindFor, aR_orN, if_neg c_6, eg2, en2]; done) | (simp [a_kindFor, aR, c_6, eg2, en2]; done)), ⟨x2, (by first | (simp only [a_kindFor, if_neg c_6, eg2, en2]; rw [aC_orN, ex2]; exact jk_orC (by assumption) _) | (simp only [a_kindFor, aC, if_neg c_6, eg2, en2, xs_self]; rw [ex2]; exact jk_a _ _) | (simp only [a_kindFor, if_neg c_6, eg2, en2]; rw [aC_orN, ex2]; exact jk_orC (by first | exact jk_rfl | assumption) _) | (simp only [a_kindFor, aC, if_neg c_6, eg2, en2, xs_self]; assumption) | (simp only [a_kindFor, if_neg c_6, eg2, en2]; rw [aC_orN]; refine jk_eq ?_; rw [ex2]; done) | (simp only [a_kindFor, aC, if_neg c_6, eg2, en2, xs_self]; refine jk_eq ?_; rw [ex2]; done)), by rw [ht]; exact hI⟩, hS.F ht⟩) hS.2.2 dX0_kindFor_26
theorem k_X0_openFor {l : Launch} {D : va_G} {L : Nat → Nat} {A : Nat → Prop} (x : cst) (hO : wOk (x.1 0)) (hd : isN (x.1 0 1 2) 10000) (g v n : Int32) : Met l yX0_openFor (ws_ yX0_openFor cX0_openFor 4 (some .int)) ({ frames := 9, cells := 0, slots := 0, locals := 203 } : Room) (va_Pc [.ref (L 44), .int g, .int v, .int n] (pI D (cfC D L x) A)) (jQ D L (aC x (a_openFor (x.1 0) g v n)) A (some (.int (aR (a_openFor (x.1 0) g v n))))) 0 0 A := by
  refine met_I (by decide) rfl (Nat.le_of_ble_eq_true rfl) ?_
  intro p e s m below meth c ls hx hb hr hml hown hts hlocks hl hI hK
  have F : CallFix p m c cX0_openFor 4 s _ lw_all RX0 := ⟨hx, hb, hml, hown, hts⟩
  have hl : lv_has ls 4 [(0, .ref (L 44)), (1, .int g), (2, .int v), (3, .int n)] := hl
  have hS : va_S A s.heap s.heap [] := va_S.rf
  obtain ⟨nn, hn, h8⟩ : ∃ n, x.1 0 1 0 = nI n ∧ n ≤ 8 := ⟨_, hO.n⟩
  have hN : wN (x.1 0) = nn := by unfold wN; rw [hn, nI_clamp (by omega)]
  refine lv_aload_n hx hb dX0_openFor_0 rfl (lv_at hl 0 rfl) ?_
  refine lv_iload_n hx hb dX0_openFor_1 rfl (lv_at hl 1 rfl) ?_
  refine lv_iload_n hx hb dX0_openFor_2 rfl (lv_at hl 3 rfl) ?_
  refine c_r (k_V (As := [.int g, .int n]) (rest := []) F (k_X0_areOne x g n) (cwV 2 hts (lw_V q822 q824 qs16 q91 q825) rfl rfl rfl (by decide +kernel) ⟨Nat.le_of_ble_eq_true rfl, Nat.le_of_ble_eq_true rfl⟩) hI hK (hw.recv hI hK (cf_main) rfl) rfl hl.1 rfl (Nat.le_of_ble_eq_true rfl) dX0_openFor_3 ⟨Nat.le_of_ble_eq_true rfl, Nat.le_of_ble_eq_true rfl⟩) ?_
  refine lv_if_eq (tgt := 30) hx hb dX0_openFor_6 (by decide) (fun c_6 => ?_) (fun c_6 => ?_)
  · skip
    refine lv_aload_n hx hb dX0_openFor_30 rfl (lv_at hl 0 rfl) ?_
    refine lv_iconst (v := 0) hx hb dX0_openFor_31 (by decide) ?_
    refine c_m (k_V (As := [.int 0]) (rest := []) F (k_X0_finding x 0 (by decide)) (cwV 1 hts (lw_V q457 q459 qs2 q91 q460) rfl rfl rfl (by decide +kernel) ⟨Nat.le_of_ble_eq_true rfl, Nat.le_of_ble_eq_true rfl⟩) hI hK (hw.recv hI hK (cf_main) rfl) rfl hl.1 rfl (Nat.le_of_ble_eq_true rfl) dX0_openFor_32 ⟨Nat.le_of_ble_eq_true rfl, Nat.le_of_ble_eq_true rfl⟩) hS (fun H1 locs1 hI hS => ?_)
    obtain ⟨x1, ex1⟩ : ∃ z, z = (fnd x 0) := ⟨_, rfl⟩
    rw [← ex1] at hI
    exact W.iret hx hb hr (fun t ht _ => ⟨rI (by first | (simp only [a_openFor, aR, if_pos c_6]; done) | (simp only [a_openFor, aR_orN, if_pos c_6]; done) | (simp [a_openFor, aR, c_6]; done)), ⟨x1, (by first | (simp only [a_openFor, if_pos c_6]; rw [aC_orN, ex1]; exact jk_orC (by assumption) _) | (simp only [a_openFor, aC, if_pos c_6, xs_self]; rw [ex1]; exact jk_a _ _) | (simp only [a_openFor, if_pos c_6]; rw [aC_orN, ex1]; exact jk_orC (by first | exact jk_rfl | assumption) _) | (simp only [a_openFor, aC, if_pos c_6, xs_self]; assumption) | (simp only [a_openFor, if_pos c_6]; rw [aC_orN]; refine jk_eq ?_; rw [ex1]; done) | (simp only [a_openFor, aC, if_pos c_6, xs_self]; refine jk_eq ?_; rw [ex1]; done)), by rw [ht]; exact hI⟩, hS.F ht⟩) hS.2.2 dX0_openFor_35
  · skip
    refine lv_iload_n hx hb dX0_openFor_9 rfl (lv_at hl 2 rfl) ?_
    refine c_r (k_S (As := [.int v]) (rest := []) F (k_X0_isMany v) (va_cwS 1 hts (lw_S q802 q803 q91 q804) rfl rfl rfl (by decide +kernel) ⟨Nat.le_of_ble_eq_true rfl, Nat.le_of_ble_eq_true rfl⟩) rfl hl.1 rfl (Nat.le_of_ble_eq_true rfl) dX0_openFor_10 ⟨Nat.le_of_ble_eq_true rfl, Nat.le_of_ble_eq_true rfl⟩) ?_
    refine lv_if_eq (tgt := 30) hx hb dX0_openFor_13 (by decide) (fun c_13 => ?_) (fun c_13 => ?_)
    · skip
      refine lv_aload_n hx hb dX0_openFor_30 rfl (lv_at hl 0 rfl) ?_
      refine lv_iconst (v := 0) hx hb dX0_openFor_31 (by decide) ?_
      refine c_m (k_V (As := [.int 0]) (rest := []) F (k_X0_finding x 0 (by decide)) (cwV 1 hts (lw_V q457 q459 qs2 q91 q460) rfl rfl rfl (by decide +kernel) ⟨Nat.le_of_ble_eq_true rfl, Nat.le_of_ble_eq_true rfl⟩) hI hK (hw.recv hI hK (cf_main) rfl) rfl hl.1 rfl (Nat.le_of_ble_eq_true rfl) dX0_openFor_32 ⟨Nat.le_of_ble_eq_true rfl, Nat.le_of_ble_eq_true rfl⟩) hS (fun H1 locs1 hI hS => ?_)
      obtain ⟨x2, ex2⟩ : ∃ z, z = (fnd x 0) := ⟨_, rfl⟩
      rw [← ex2] at hI
      exact W.iret hx hb hr (fun t ht _ => ⟨rI (by first | (simp only [a_openFor, aR, if_neg c_6, if_pos c_13]; done) | (simp only [a_openFor, aR_orN, if_neg c_6, if_pos c_13]; done) | (simp [a_openFor, aR, c_6, c_13]; done)), ⟨x2, (by first | (simp only [a_openFor, if_neg c_6, if_pos c_13]; rw [aC_orN, ex2]; exact jk_orC (by assumption) _) | (simp only [a_openFor, aC, if_neg c_6, if_pos c_13, xs_self]; rw [ex2]; exact jk_a _ _) | (simp only [a_openFor, if_neg c_6, if_pos c_13]; rw [aC_orN, ex2]; exact jk_orC (by first | exact jk_rfl | assumption) _) | (simp only [a_openFor, aC, if_neg c_6, if_pos c_13, xs_self]; assumption) | (simp only [a_openFor, if_neg c_6, if_pos c_13]; rw [aC_orN]; refine jk_eq ?_; rw [ex2]; done) | (simp only [a_openFor, aC, if_neg c_6, if_pos c_13, xs_self]; refine jk_eq ?_; rw [ex2]; done)), by rw [ht]; exact hI⟩, hS.F ht⟩) hS.2.2 dX0_openFor_35
    · skip
      obtain ⟨k, hk, eg⟩ := isGl_to hn h8 (ao_to c_6).1
      have eg2 : g.toNatClampNeg = k := by rw [eg, nI_clamp (by omega)]
      obtain ⟨j, hj, en⟩ := inI_to (b := 60) rfl (by decide) (ao_to c_6).2
      have en2 : n.toNatClampNeg = j := by rw [en, nI_clamp (by omega)]
      subst eg
      subst en
      refine lv_aload_n hx hb dX0_openFor_16 rfl (lv_at hl 0 rfl) ?_
      refine lv_aload_n hx hb dX0_openFor_17 rfl (lv_at hl 0 rfl) ?_
      refine lv_iload_n hx hb dX0_openFor_18 rfl (lv_at hl 1 rfl) ?_
      refine lv_iload_n hx hb dX0_openFor_19 rfl (lv_at hl 2 rfl) ?_
      refine lv_iload_n hx hb dX0_openFor_20 rfl (lv_at hl 3 rfl) ?_
      refine c_j (k_V (As := [.int (nI k), .int v, .int (nI j)]) (rest := [.ref (L 44)]) F (k_X0_leastOpen x (hO) (hd) k v j (by omega) (by omega)) (cwV 3 hts (lw_V q834 q836 qs18 q91 q837) rfl rfl rfl (by decide +kernel) ⟨Nat.le_of_ble_eq_true rfl, Nat.le_of_ble_eq_true rfl⟩) hI hK (hw.recv hI hK (cf_main) rfl) rfl hl.1 rfl (Nat.le_of_ble_eq_true rfl) dX0_openFor_21 ⟨Nat.le_of_ble_eq_true rfl, Nat.le_of_ble_eq_true rfl⟩) hS (fun x3 H1 locs1 ex3 hI hS => ?_)
      refine c_m (k_V (As := [.int (loI (x.1 0) k v j)]) (rest := []) F (k_X0_orNone x3 (loI (x.1 0) k v j)) (cwV 1 hts (lw_V q794 q796 qs13 q91 q797) rfl rfl rfl (by decide +kernel) ⟨Nat.le_of_ble_eq_true rfl, Nat.le_of_ble_eq_true rfl⟩) hI hK (hw.recv hI hK (cf_main) rfl) rfl hl.1 rfl (Nat.le_of_ble_eq_true rfl) dX0_openFor_24 ⟨Nat.le_of_ble_eq_true rfl, Nat.le_of_ble_eq_true rfl⟩) hS (fun H1 locs1 hI hS => ?_)
      obtain ⟨x4, ex4⟩ : ∃ z, z = orC x3 (loI (x.1 0) k v j) := ⟨_, rfl⟩
      rw [← ex4] at hI
      refine lv_goto (tgt := 35) hx hb dX0_openFor_27 (by decide) ?_
      exact W.iret hx hb hr (fun t ht _ => ⟨rI (by first | (simp only [a_openFor, aR, if_neg c_6, if_neg c_13, eg2, en2]; done) | (simp only [a_openFor, aR_orN, if_neg c_6, if_neg c_13, eg2, en2]; done) | (simp [a_openFor, aR, c_6, c_13, eg2, en2]; done)), ⟨x4, (by first | (simp only [a_openFor, if_neg c_6, if_neg c_13, eg2, en2]; rw [aC_orN, ex4]; exact jk_orC (by assumption) _) | (simp only [a_openFor, aC, if_neg c_6, if_neg c_13, eg2, en2, xs_self]; rw [ex4, ex3]; exact jk_a _ _) | (simp only [a_openFor, if_neg c_6, if_neg c_13, eg2, en2]; rw [aC_orN, ex4, ex3]; exact jk_orC (by first | exact jk_rfl | assumption) _) | (simp only [a_openFor, aC, if_neg c_6, if_neg c_13, eg2, en2, xs_self]; assumption) | (simp only [a_openFor, if_neg c_6, if_neg c_13, eg2, en2]; rw [aC_orN]; refine jk_eq ?_; rw [ex4, ex3]; done) | (simp only [a_openFor, aC, if_neg c_6, if_neg c_13, eg2, en2, xs_self]; refine jk_eq ?_; rw [ex4, ex3]; done)), by rw [ht]; exact hI⟩, hS.F ht⟩) hS.2.2 dX0_openFor_35
theorem k_X0_fewestKnowing {l : Launch} {D : va_G} {L : Nat → Nat} {A : Nat → Prop} (x : cst) (hO : wOk (x.1 0)) (t : Int32) : Met l yX0_fewestKnowing (ws_ yX0_fewestKnowing cX0_fewestKnowing 5 (some .int)) ({ frames := 3, cells := 0, slots := 0, locals := 66 } : Room) (va_Pc [.ref (L 44), .int t] (pI D (cfC D L x) A)) (rQ (.int (fkI (x.1 0) t))) 0 0 nof := by
  refine met_I (by decide) rfl (Nat.le_of_ble_eq_true rfl) ?_
  intro p e s m below meth c ls hx hb hr hml hown hts hlocks hl hI hK
  have F : CallFix p m c cX0_fewestKnowing 5 s _ lw_all RX0 := ⟨hx, hb, hml, hown, hts⟩
  have hl : lv_has ls 5 [(0, .ref (L 44)), (1, .int t)] := hl
  obtain ⟨nn, hn, h8⟩ : ∃ n, x.1 0 1 0 = nI n ∧ n ≤ 8 := ⟨_, hO.n⟩
  have hN : wN (x.1 0) = nn := by unfold wN; rw [hn, nI_clamp (by omega)]
  obtain ⟨NN, hA, h255, hNN⟩ : ∃ N, allI (x.1 0) = nI N ∧ N ≤ 255 ∧ 2 ^ wN (x.1 0) = N + 1 := ⟨2 ^ nn - 1, (all_nat hn h8).1, (all_nat hn h8).2, by rw [hN]; have := Nat.two_pow_pos nn; omega⟩
  refine lv_iconst (v := (-1)) hx hb dX0_fewestKnowing_0 (by decide) ?_
  refine lv_istore_n (lv' := [(2, .int (-1)), (0, .ref (L 44)), (1, .int t)]) hx hb dX0_fewestKnowing_1 rfl hl (by decide) rfl (fun ls hl => ?_)
  refine lv_iconst (v := 0) hx hb dX0_fewestKnowing_2 (by decide) ?_
  refine lv_istore_n (lv' := [(3, .int 0), (2, .int (-1)), (0, .ref (L 44)), (1, .int t)]) hx hb dX0_fewestKnowing_3 rfl hl (by decide) rfl (fun ls hl => ?_)
  have lp4 : ∀ (fuel : Nat) (i : Nat), (i ≤ NN + 1) → NN + 1 - i < fuel → ∀ (v2 : Int32) (v3 : Int32), v2 = (itr (fkS (x.1 0) t) (-1) i) → v3 = nI i → ∀ (ls : Array Slot), lv_has ls 5 [(0, .ref (L 44)), (1, .int t), (2, .int v2), (3, .int v3)] → W p l e ({ frames := 3, cells := 0, slots := 0, locals := 66 } : Room) s m ([.ref (L 44), .int t] : List Value).toArray below meth c s.heap [] 0 0 (MQ below (rQ (.int (fkI (x.1 0) t))) ([.ref (L 44), .int t] : List Value).toArray s 0 0 nof) (F0 m 4 ls []) := by
    intro fuel
    induction fuel with
    | zero => intro i hi hf; exact absurd hf (Nat.not_lt_zero _)
    | succ fuel ih4 =>
      intro i hi hf4 v2 v3 e2 e3  ls hl
      subst e2 e3
      refine lv_iload_n hx hb dX0_fewestKnowing_4 rfl (lv_at hl 3 rfl) ?_
      refine lv_aload_n hx hb dX0_fewestKnowing_5 rfl (lv_at hl 0 rfl) ?_
      refine r_get (C := RX0) (T := TX0) (N := 11) hx hb hts in_X0 hown hK hI (cf_main) rfl 3 (by decide) (hts _ q401) (fun _ h => h) rfl dX0_fewestKnowing_6 ?_
      refine c_r (k_V (As := []) (rest := [.int (nI i)]) F (k_X4_all x 0 (by decide) (hO)) (cwV 0 hts (lw_V q747 q748 q749 q98 q750) rfl rfl rfl (by decide +kernel) ⟨Nat.le_of_ble_eq_true rfl, Nat.le_of_ble_eq_true rfl⟩) hI hK (hw.recv hI hK (cf_W (w := 0) (by decide)) rfl) rfl hl.1 rfl (Nat.le_of_ble_eq_true rfl) dX0_fewestKnowing_9 ⟨Nat.le_of_ble_eq_true rfl, Nat.le_of_ble_eq_true rfl⟩) ?_
      refine lv_icmp_gt (tgt := 70) hx hb dX0_fewestKnowing_12 (by decide) (fun c_12 => ?_) (fun c_12 => ?_)
      · skip
        have c_12 : NN < i := (nlt (a := NN) (b := i) (hA) (rfl) (by omega) (by omega)).mp c_12
        refine lv_iload_n hx hb dX0_fewestKnowing_70 rfl (lv_at hl 2 rfl) ?_
        exact W.iret hx hb hr (fun t ht _ => ⟨rI (by rw [fkI, hNN, show i = NN + 1 by omega]), ht⟩) (fun q h => by cases h) dX0_fewestKnowing_71
      · skip
        have c_12 : ¬ NN < i := fun z => c_12 ((nlt (a := NN) (b := i) (hA) (rfl) (by omega) (by omega)).mpr z)
        refine lv_iload_n hx hb dX0_fewestKnowing_15 rfl (lv_at hl 2 rfl) ?_
        refine lv_iconst (v := (-1)) hx hb dX0_fewestKnowing_16 (by decide) ?_
        refine lv_icmp_eq (tgt := 31) hx hb dX0_fewestKnowing_17 (by decide) (fun c_17 => ?_) (fun c_17 => ?_)
        · skip
          refine lv_iconst (v := 1) hx hb dX0_fewestKnowing_31 (by decide) ?_
          refine lv_goto (tgt := 36) hx hb dX0_fewestKnowing_32 (by decide) ?_
          refine lv_istore (lv' := [(4, .int 1), (0, .ref (L 44)), (1, .int t), (2, .int (itr (fkS (x.1 0) t) (-1) i)), (3, .int (nI i))]) hx hb dX0_fewestKnowing_36 hl (by decide) rfl (fun ls hl => ?_)
          refine lv_iload hx hb dX0_fewestKnowing_38 (lv_at hl 0 rfl) ?_
          refine lv_if_eq (tgt := 62) hx hb dX0_fewestKnowing_40 (by decide) (fun c_40 => ?_) (fun c_40 => ?_)
          · skip
            have c_40 : 1 = 0 := (neq (a := 1) (b := 0) (rfl) (rfl) (by omega) (by omega)).mp c_40
            exact absurd c_40 (by decide)
          · skip
            have c_40 : ¬ 1 = 0 := fun z => c_40 ((neq (a := 1) (b := 0) (rfl) (rfl) (by omega) (by omega)).mpr z)
            refine lv_iload_n hx hb dX0_fewestKnowing_43 rfl (lv_at hl 2 rfl) ?_
            refine lv_aload_n hx hb dX0_fewestKnowing_44 rfl (lv_at hl 1 rfl) ?_
            refine r_get (C := RX0) (T := TX0) (N := 11) hx hb hts in_X0 hown hK hI (cf_main) rfl 3 (by decide) (hts _ q401) (fun _ h => h) rfl dX0_fewestKnowing_45 ?_
            refine lv_iload_n hx hb dX0_fewestKnowing_48 rfl (lv_at hl 4 rfl) ?_
            refine c_r (k_V (As := [.int (nI i)]) (rest := [.int t]) F (k_X4_knownBoth x 0 (by decide) (hO) (nI i)) (cwV 1 hts (lw_V q755 q756 q757 q98 q758) rfl rfl rfl (by decide +kernel) ⟨Nat.le_of_ble_eq_true rfl, Nat.le_of_ble_eq_true rfl⟩) hI hK (hw.recv hI hK (cf_W (w := 0) (by decide)) rfl) rfl hl.1 rfl (Nat.le_of_ble_eq_true rfl) dX0_fewestKnowing_49 ⟨Nat.le_of_ble_eq_true rfl, Nat.le_of_ble_eq_true rfl⟩) ?_
            refine lv_iconst (v := (-1)) hx hb dX0_fewestKnowing_52 (by decide) ?_
            refine lv_ixor hx hb dX0_fewestKnowing_53 ?_
            refine lv_iand hx hb dX0_fewestKnowing_54 ?_
            refine lv_if_ne (tgt := 62) hx hb dX0_fewestKnowing_55 (by decide) (fun c_55 => ?_) (fun c_55 => ?_)
            · skip
              refine lv_iload_n hx hb dX0_fewestKnowing_62 rfl (lv_at hl 3 rfl) ?_
              refine lv_istore_n (lv' := [(2, .int (itr (fkS (x.1 0) t) (-1) i)), (4, .int 1), (0, .ref (L 44)), (1, .int t), (3, .int (nI i))]) hx hb dX0_fewestKnowing_63 rfl hl (by decide) rfl (fun ls hl => ?_)
              refine lv_iinc (v := (nI (i + 1))) (lv' := [(3, .int (nI (i + 1))), (2, .int (itr (fkS (x.1 0) t) (-1) i)), (4, .int 1), (0, .ref (L 44)), (1, .int t)]) hx hb dX0_fewestKnowing_64 hl (k := 4) rfl (nI_1 _) (by decide) rfl (fun ls hl => ?_)
              refine lv_goto (tgt := 4) hx hb dX0_fewestKnowing_67 (by decide) ?_
              exact ih4 (i + 1) (by omega) (by omega) (itr (fkS (x.1 0) t) (-1) i) (nI (i + 1)) (by simp only [itr_s, fkS, if_neg c_12, if_pos c_17, if_neg c_40, if_neg c_55]) (rfl) ls (lv_sub hl [3, 4, 1, 0] rfl)
            · skip
              refine lv_iload_n hx hb dX0_fewestKnowing_58 rfl (lv_at hl 4 rfl) ?_
              refine lv_goto (tgt := 63) hx hb dX0_fewestKnowing_59 (by decide) ?_
              refine lv_istore_n (lv' := [(2, .int (nI i)), (4, .int 1), (0, .ref (L 44)), (1, .int t), (3, .int (nI i))]) hx hb dX0_fewestKnowing_63 rfl hl (by decide) rfl (fun ls hl => ?_)
              refine lv_iinc (v := (nI (i + 1))) (lv' := [(3, .int (nI (i + 1))), (2, .int (nI i)), (4, .int 1), (0, .ref (L 44)), (1, .int t)]) hx hb dX0_fewestKnowing_64 hl (k := 4) rfl (nI_1 _) (by decide) rfl (fun ls hl => ?_)
              refine lv_goto (tgt := 4) hx hb dX0_fewestKnowing_67 (by decide) ?_
              exact ih4 (i + 1) (by omega) (by omega) (nI i) (nI (i + 1)) (by simp only [itr_s, fkS, if_neg c_12, if_pos c_17, if_neg c_40, if_pos c_55]) (rfl) ls (lv_sub hl [3, 4, 1, 0] rfl)
        · skip
          refine lv_iload_n hx hb dX0_fewestKnowing_20 rfl (lv_at hl 3 rfl) ?_
          refine c_r (k_S (As := [.int (nI i)]) (rest := []) F (k_X0_ones (nI i)) (va_cwS 1 hts (lw_S q809 q734 q91 q735) rfl rfl rfl (by decide +kernel) ⟨Nat.le_of_ble_eq_true rfl, Nat.le_of_ble_eq_true rfl⟩) rfl hl.1 rfl (Nat.le_of_ble_eq_true rfl) dX0_fewestKnowing_21 ⟨Nat.le_of_ble_eq_true rfl, Nat.le_of_ble_eq_true rfl⟩) ?_
          refine lv_iload_n hx hb dX0_fewestKnowing_24 rfl (lv_at hl 2 rfl) ?_
          refine c_r (k_S (As := [.int (itr (fkS (x.1 0) t) (-1) i)]) (rest := [.int (bcI (nI i))]) F (k_X0_ones (itr (fkS (x.1 0) t) (-1) i)) (va_cwS 1 hts (lw_S q809 q734 q91 q735) rfl rfl rfl (by decide +kernel) ⟨Nat.le_of_ble_eq_true rfl, Nat.le_of_ble_eq_true rfl⟩) rfl hl.1 rfl (Nat.le_of_ble_eq_true rfl) dX0_fewestKnowing_25 ⟨Nat.le_of_ble_eq_true rfl, Nat.le_of_ble_eq_true rfl⟩) ?_
          refine lv_icmp_ge (tgt := 35) hx hb dX0_fewestKnowing_28 (by decide) (fun c_28 => ?_) (fun c_28 => ?_)
          · skip
            have c_28 := Int32.not_lt.mpr c_28
            refine lv_iconst (v := 0) hx hb dX0_fewestKnowing_35 (by decide) ?_
            refine lv_istore (lv' := [(4, .int 0), (0, .ref (L 44)), (1, .int t), (2, .int (itr (fkS (x.1 0) t) (-1) i)), (3, .int (nI i))]) hx hb dX0_fewestKnowing_36 hl (by decide) rfl (fun ls hl => ?_)
            refine lv_iload hx hb dX0_fewestKnowing_38 (lv_at hl 0 rfl) ?_
            refine lv_if_eq (tgt := 62) hx hb dX0_fewestKnowing_40 (by decide) (fun c_40 => ?_) (fun c_40 => ?_)
            · skip
              have c_40 : 0 = 0 := (neq (a := 0) (b := 0) (rfl) (rfl) (by omega) (by omega)).mp c_40
              refine lv_iload_n hx hb dX0_fewestKnowing_62 rfl (lv_at hl 3 rfl) ?_
              refine lv_istore_n (lv' := [(2, .int (itr (fkS (x.1 0) t) (-1) i)), (4, .int 0), (0, .ref (L 44)), (1, .int t), (3, .int (nI i))]) hx hb dX0_fewestKnowing_63 rfl hl (by decide) rfl (fun ls hl => ?_)
              refine lv_iinc (v := (nI (i + 1))) (lv' := [(3, .int (nI (i + 1))), (2, .int (itr (fkS (x.1 0) t) (-1) i)), (4, .int 0), (0, .ref (L 44)), (1, .int t)]) hx hb dX0_fewestKnowing_64 hl (k := 4) rfl (nI_1 _) (by decide) rfl (fun ls hl => ?_)
              refine lv_goto (tgt := 4) hx hb dX0_fewestKnowing_67 (by decide) ?_
              exact ih4 (i + 1) (by omega) (by omega) (itr (fkS (x.1 0) t) (-1) i) (nI (i + 1)) (by simp only [itr_s, fkS, if_neg c_12, if_neg c_17, if_neg c_28, if_pos c_40]) (rfl) ls (lv_sub hl [3, 4, 1, 0] rfl)
            · skip
              have c_40 : ¬ 0 = 0 := fun z => c_40 ((neq (a := 0) (b := 0) (rfl) (rfl) (by omega) (by omega)).mpr z)
              exact absurd (by decide) c_40
          · skip
            have c_28 := Int32.not_le.mp c_28
            refine lv_iconst (v := 1) hx hb dX0_fewestKnowing_31 (by decide) ?_
            refine lv_goto (tgt := 36) hx hb dX0_fewestKnowing_32 (by decide) ?_
            refine lv_istore (lv' := [(4, .int 1), (0, .ref (L 44)), (1, .int t), (2, .int (itr (fkS (x.1 0) t) (-1) i)), (3, .int (nI i))]) hx hb dX0_fewestKnowing_36 hl (by decide) rfl (fun ls hl => ?_)
            refine lv_iload hx hb dX0_fewestKnowing_38 (lv_at hl 0 rfl) ?_
            refine lv_if_eq (tgt := 62) hx hb dX0_fewestKnowing_40 (by decide) (fun c_40 => ?_) (fun c_40 => ?_)
            · skip
              have c_40 : 1 = 0 := (neq (a := 1) (b := 0) (rfl) (rfl) (by omega) (by omega)).mp c_40
              exact absurd c_40 (by decide)
            · skip
              have c_40 : ¬ 1 = 0 := fun z => c_40 ((neq (a := 1) (b := 0) (rfl) (rfl) (by omega) (by omega)).mpr z)
              refine lv_iload_n hx hb dX0_fewestKnowing_43 rfl (lv_at hl 2 rfl) ?_
              refine lv_aload_n hx hb dX0_fewestKnowing_44 rfl (lv_at hl 1 rfl) ?_
              refine r_get (C := RX0) (T := TX0) (N := 11) hx hb hts in_X0 hown hK hI (cf_main) rfl 3 (by decide) (hts _ q401) (fun _ h => h) rfl dX0_fewestKnowing_45 ?_
              refine lv_iload_n hx hb dX0_fewestKnowing_48 rfl (lv_at hl 4 rfl) ?_
              refine c_r (k_V (As := [.int (nI i)]) (rest := [.int t]) F (k_X4_knownBoth x 0 (by decide) (hO) (nI i)) (cwV 1 hts (lw_V q755 q756 q757 q98 q758) rfl rfl rfl (by decide +kernel) ⟨Nat.le_of_ble_eq_true rfl, Nat.le_of_ble_eq_true rfl⟩) hI hK (hw.recv hI hK (cf_W (w := 0) (by decide)) rfl) rfl hl.1 rfl (Nat.le_of_ble_eq_true rfl) dX0_fewestKnowing_49 ⟨Nat.le_of_ble_eq_true rfl, Nat.le_of_ble_eq_true rfl⟩) ?_
              refine lv_iconst (v := (-1)) hx hb dX0_fewestKnowing_52 (by decide) ?_
              refine lv_ixor hx hb dX0_fewestKnowing_53 ?_
              refine lv_iand hx hb dX0_fewestKnowing_54 ?_
              refine lv_if_ne (tgt := 62) hx hb dX0_fewestKnowing_55 (by decide) (fun c_55 => ?_) (fun c_55 => ?_)
              · skip
                refine lv_iload_n hx hb dX0_fewestKnowing_62 rfl (lv_at hl 3 rfl) ?_
                refine lv_istore_n (lv' := [(2, .int (itr (fkS (x.1 0) t) (-1) i)), (4, .int 1), (0, .ref (L 44)), (1, .int t), (3, .int (nI i))]) hx hb dX0_fewestKnowing_63 rfl hl (by decide) rfl (fun ls hl => ?_)
                refine lv_iinc (v := (nI (i + 1))) (lv' := [(3, .int (nI (i + 1))), (2, .int (itr (fkS (x.1 0) t) (-1) i)), (4, .int 1), (0, .ref (L 44)), (1, .int t)]) hx hb dX0_fewestKnowing_64 hl (k := 4) rfl (nI_1 _) (by decide) rfl (fun ls hl => ?_)
                refine lv_goto (tgt := 4) hx hb dX0_fewestKnowing_67 (by decide) ?_
                exact ih4 (i + 1) (by omega) (by omega) (itr (fkS (x.1 0) t) (-1) i) (nI (i + 1)) (by simp only [itr_s, fkS, if_neg c_12, if_neg c_17, if_pos c_28, if_neg c_40, if_neg c_55]) (rfl) ls (lv_sub hl [3, 4, 1, 0] rfl)
              · skip
                refine lv_iload_n hx hb dX0_fewestKnowing_58 rfl (lv_at hl 4 rfl) ?_
                refine lv_goto (tgt := 63) hx hb dX0_fewestKnowing_59 (by decide) ?_
                refine lv_istore_n (lv' := [(2, .int (nI i)), (4, .int 1), (0, .ref (L 44)), (1, .int t), (3, .int (nI i))]) hx hb dX0_fewestKnowing_63 rfl hl (by decide) rfl (fun ls hl => ?_)
                refine lv_iinc (v := (nI (i + 1))) (lv' := [(3, .int (nI (i + 1))), (2, .int (nI i)), (4, .int 1), (0, .ref (L 44)), (1, .int t)]) hx hb dX0_fewestKnowing_64 hl (k := 4) rfl (nI_1 _) (by decide) rfl (fun ls hl => ?_)
                refine lv_goto (tgt := 4) hx hb dX0_fewestKnowing_67 (by decide) ?_
                exact ih4 (i + 1) (by omega) (by omega) (nI i) (nI (i + 1)) (by simp only [itr_s, fkS, if_neg c_12, if_neg c_17, if_pos c_28, if_neg c_40, if_pos c_55]) (rfl) ls (lv_sub hl [3, 4, 1, 0] rfl)
  exact lp4 (_ + 1) (0) (Nat.zero_le _) (Nat.lt_succ_self _) (-1) 0 (rfl) (rfl) ls (lv_sub hl [2, 3, 1, 0] rfl)
theorem k_X0_cover {l : Launch} {D : va_G} {L : Nat → Nat} {A : Nat → Prop} (x : cst) (hO : wOk (x.1 0)) (hd : isN (x.1 0 1 2) 10000) (t : Int32) : Met l yX0_cover (ws_ yX0_cover cX0_cover 2 (some .int)) ({ frames := 4, cells := 0, slots := 0, locals := 90 } : Room) (va_Pc [.ref (L 44), .int t] (pI D (cfC D L x) A)) (jQ D L (aC x (a_cover (x.1 0) t)) A (some (.int (aR (a_cover (x.1 0) t))))) 0 0 A := by
  refine met_I (by decide) rfl (Nat.le_of_ble_eq_true rfl) ?_
  intro p e s m below meth c ls hx hb hr hml hown hts hlocks hl hI hK
  have F : CallFix p m c cX0_cover 2 s _ lw_all RX0 := ⟨hx, hb, hml, hown, hts⟩
  have hl : lv_has ls 2 [(0, .ref (L 44)), (1, .int t)] := hl
  have hS : va_S A s.heap s.heap [] := va_S.rf
  obtain ⟨nn, hn, h8⟩ : ∃ n, x.1 0 1 0 = nI n ∧ n ≤ 8 := ⟨_, hO.n⟩
  have hN : wN (x.1 0) = nn := by unfold wN; rw [hn, nI_clamp (by omega)]
  refine lv_iload_n hx hb dX0_cover_0 rfl (lv_at hl 1 rfl) ?_
  refine c_r (k_S (As := [.int t]) (rest := []) F (k_X0_isTopics t) (va_cwS 1 hts (lw_S q669 q670 q91 q671) rfl rfl rfl (by decide +kernel) ⟨Nat.le_of_ble_eq_true rfl, Nat.le_of_ble_eq_true rfl⟩) rfl hl.1 rfl (Nat.le_of_ble_eq_true rfl) dX0_cover_1 ⟨Nat.le_of_ble_eq_true rfl, Nat.le_of_ble_eq_true rfl⟩) ?_
  refine lv_if_eq (tgt := 19) hx hb dX0_cover_4 (by decide) (fun c_4 => ?_) (fun c_4 => ?_)
  · skip
    refine lv_aload_n hx hb dX0_cover_19 rfl (lv_at hl 0 rfl) ?_
    refine lv_iconst (v := 0) hx hb dX0_cover_20 (by decide) ?_
    refine c_m (k_V (As := [.int 0]) (rest := []) F (k_X0_finding x 0 (by decide)) (cwV 1 hts (lw_V q457 q459 qs2 q91 q460) rfl rfl rfl (by decide +kernel) ⟨Nat.le_of_ble_eq_true rfl, Nat.le_of_ble_eq_true rfl⟩) hI hK (hw.recv hI hK (cf_main) rfl) rfl hl.1 rfl (Nat.le_of_ble_eq_true rfl) dX0_cover_21 ⟨Nat.le_of_ble_eq_true rfl, Nat.le_of_ble_eq_true rfl⟩) hS (fun H1 locs1 hI hS => ?_)
    obtain ⟨x1, ex1⟩ : ∃ z, z = (fnd x 0) := ⟨_, rfl⟩
    rw [← ex1] at hI
    exact W.iret hx hb hr (fun t ht _ => ⟨rI (by first | (simp only [a_cover, aR, if_pos c_4]; done) | (simp only [a_cover, aR_orN, if_pos c_4]; done) | (simp [a_cover, aR, c_4]; done)), ⟨x1, (by first | (simp only [a_cover, if_pos c_4]; rw [aC_orN, ex1]; exact jk_orC (by assumption) _) | (simp only [a_cover, aC, if_pos c_4, xs_self]; rw [ex1]; exact jk_a _ _) | (simp only [a_cover, if_pos c_4]; rw [aC_orN, ex1]; exact jk_orC (by first | exact jk_rfl | assumption) _) | (simp only [a_cover, aC, if_pos c_4, xs_self]; assumption) | (simp only [a_cover, if_pos c_4]; rw [aC_orN]; refine jk_eq ?_; rw [ex1]; done) | (simp only [a_cover, aC, if_pos c_4, xs_self]; refine jk_eq ?_; rw [ex1]; done)), by rw [ht]; exact hI⟩, hS.F ht⟩) hS.2.2 dX0_cover_24
  · skip
    refine lv_aload_n hx hb dX0_cover_7 rfl (lv_at hl 0 rfl) ?_
    refine lv_aload_n hx hb dX0_cover_8 rfl (lv_at hl 0 rfl) ?_
    refine lv_iload_n hx hb dX0_cover_9 rfl (lv_at hl 1 rfl) ?_
    refine c_r (k_V (As := [.int t]) (rest := [.ref (L 44)]) F (k_X0_fewestKnowing x (hO) t) (cwV 1 hts (lw_V q854 q856 qs20 q91 q857) rfl rfl rfl (by decide +kernel) ⟨Nat.le_of_ble_eq_true rfl, Nat.le_of_ble_eq_true rfl⟩) hI hK (hw.recv hI hK (cf_main) rfl) rfl hl.1 rfl (Nat.le_of_ble_eq_true rfl) dX0_cover_10 ⟨Nat.le_of_ble_eq_true rfl, Nat.le_of_ble_eq_true rfl⟩) ?_
    refine c_m (k_V (As := [.int (fkI (x.1 0) t)]) (rest := []) F (k_X0_orNone x (fkI (x.1 0) t)) (cwV 1 hts (lw_V q794 q796 qs13 q91 q797) rfl rfl rfl (by decide +kernel) ⟨Nat.le_of_ble_eq_true rfl, Nat.le_of_ble_eq_true rfl⟩) hI hK (hw.recv hI hK (cf_main) rfl) rfl hl.1 rfl (Nat.le_of_ble_eq_true rfl) dX0_cover_13 ⟨Nat.le_of_ble_eq_true rfl, Nat.le_of_ble_eq_true rfl⟩) hS (fun H1 locs1 hI hS => ?_)
    obtain ⟨x2, ex2⟩ : ∃ z, z = orC x (fkI (x.1 0) t) := ⟨_, rfl⟩
    rw [← ex2] at hI
    refine lv_goto (tgt := 24) hx hb dX0_cover_16 (by decide) ?_
    exact W.iret hx hb hr (fun t ht _ => ⟨rI (by first | (simp only [a_cover, aR, if_neg c_4]; done) | (simp only [a_cover, aR_orN, if_neg c_4]; done) | (simp [a_cover, aR, c_4]; done)), ⟨x2, (by first | (simp only [a_cover, if_neg c_4]; rw [aC_orN, ex2]; exact jk_orC (by assumption) _) | (simp only [a_cover, aC, if_neg c_4, xs_self]; rw [ex2]; exact jk_a _ _) | (simp only [a_cover, if_neg c_4]; rw [aC_orN, ex2]; exact jk_orC (by first | exact jk_rfl | assumption) _) | (simp only [a_cover, aC, if_neg c_4, xs_self]; assumption) | (simp only [a_cover, if_neg c_4]; rw [aC_orN]; refine jk_eq ?_; rw [ex2]; done) | (simp only [a_cover, aC, if_neg c_4, xs_self]; refine jk_eq ?_; rw [ex2]; done)), by rw [ht]; exact hI⟩, hS.F ht⟩) hS.2.2 dX0_cover_24
