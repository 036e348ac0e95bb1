/-! LeftGlovesModel: sheets -/
def tOf (b : Int32) : Nat := if b = 8 then 0 else if b = 16 then 1 else 2
def shMq (y : mst) (s : Nat) : shv := if y.2.1 3 s = 0 then none else some (tOf (y.2.1 3 s), (y.2.1 4 s).toNatClampNeg, fun i => y.2.1 5 (40 * s + i))
def shMk (y : mst) : Prop := ∀ s, s < 4 → (y.2.1 3 s = 0 ∨ y.2.1 3 s = 8 ∨ y.2.1 3 s = 16 ∨ y.2.1 3 s = 32) ∧ isN (y.2.1 4 s) 41
theorem shq_l {q : Nat → shv} {s : Int32} {k : Nat} (h : shq q s = .inl k) : k = 0 ∨ k = 5 := by
  unfold shq at h
  by_cases h1 : inI s 0 3 = 0
  · rw [if_pos h1] at h; cases h; exact Or.inl rfl
  · rw [if_neg h1] at h
    split at h
    · cases h; exact Or.inr rfl
    · cases h
theorem shq_r {y : mst} {s : Int32} {z : Nat × Nat × (Nat → Int32)} (h : shq (shMq y) s = .inr z) : ∃ k, k < 4 ∧ s = nI k ∧ ¬ y.2.1 3 k = 0 ∧ z = (tOf (y.2.1 3 k), (y.2.1 4 k).toNatClampNeg, fun i => y.2.1 5 (40 * k + i)) := by
  unfold shq at h
  by_cases h1 : inI s 0 3 = 0
  · rw [if_pos h1] at h; cases h
  · rw [if_neg h1] at h
    obtain ⟨k, hk, rfl⟩ := inI_to (b := 3) rfl (by decide) h1
    rw [nI_clamp (by omega)] at h
    unfold shMq at h
    by_cases h2 : y.2.1 3 k = 0
    · rw [if_pos h2] at h; cases h
    · rw [if_neg h2] at h; cases h
      exact ⟨k, by omega, rfl, h2, rfl⟩
theorem shq_5 {y : mst} {k : Nat} (hk : k < 4) (h : y.2.1 3 k = 0) : shq (shMq y) (nI k) = .inl 5 := by
  rw [shq, if_neg (in03 hk), nI_clamp (by omega), shMq, if_pos h]
theorem shq_v {y : mst} {k : Nat} (hk : k < 4) (h : ¬ y.2.1 3 k = 0) : shq (shMq y) (nI k) = .inr (tOf (y.2.1 3 k), (y.2.1 4 k).toNatClampNeg, fun i => y.2.1 5 (40 * k + i)) := by
  rw [shq, if_neg (in03 hk), nI_clamp (by omega), shMq, if_neg h]
def yrow (x : mst) (r : Nat) (g : Nat → Int32) : mst := (x.1, ur x.2.1 r g, x.2.2)
theorem yr_row (x : mst) (r : Nat) (g : Nat → Int32) (c : Nat) (v : Int32) : yr (yrow x r g) r c v = yrow x r (upd g c v) := by
  refine Prod.ext rfl (Prod.ext ?_ rfl)
  show u2 (ur x.2.1 r g) r c v = ur x.2.1 r (upd g c v)
  funext q
  unfold u2 ur
  by_cases h : q = r
  · simp [h]
  · simp [h]
theorem yrow_at (x : mst) (r : Nat) (g : Nat → Int32) : (yrow x r g).2.1 r = g := ur_at _ _ _
theorem yrow_ne {x : mst} {r q : Nat} {g : Nat → Int32} (h : q ≠ r) : (yrow x r g).2.1 q = x.2.1 q := ur_ne h
theorem yrow_self (x : mst) (r : Nat) : yrow x r (x.2.1 r) = x := by
  refine Prod.ext rfl (Prod.ext ?_ rfl)
  exact ur_self _ _
theorem yr_ne {x : mst} {r c q : Nat} {v : Int32} (h : q ≠ r) : (yr x r c v).2.1 q = x.2.1 q := u2_ne h
theorem yr_at (x : mst) (r c : Nat) (v : Int32) : (yr x r c v).2.1 r = upd (x.2.1 r) c v := u2_same _ _ _ _
def clS (s : Nat) (i : Nat) (f : Nat → Int32) : Nat → Int32 := upd f (40 * s + i) 0
def shY (x : mst) (s : Nat) (b c : Int32) : mst := yrow (yr (yr x 3 s b) 4 s c) 5 (itr (clS s) (x.2.1 5) 40)
def aMS (x : mst) (s b n : Int32) : Nat ⊕ (Int32 × shv) → mst
  | .inl k => fndM x k
  | .inr q => shY x s.toNatClampNeg b q.1
def aS : Nat ⊕ (Int32 × shv) → Int32
  | .inl k => -1000001 - nI k
  | .inr q => q.1
def aMW (x : mst) : Nat ⊕ (Nat × Nat × Int32) → mst
  | .inl k => fndM x k
  | .inr q => yr x 5 (40 * q.1 + q.2.1) q.2.2
theorem tOf_8 : tOf 8 = 0 := rfl
theorem tOf_16 : tOf 16 = 1 := rfl
def cpS (g0 : Nat → Int32) (a b : Nat) (i : Nat) (f : Nat → Int32) : Nat → Int32 := upd f (b + i) (g0 (a + i))
def aMP (x : mst) : Nat ⊕ (Nat × Nat × Nat × Nat × Nat) → mst
  | .inl k => fndM x k
  | .inr q => yrow x 5 (itr (cpS (x.2.1 5) (40 * q.1 + q.2.1) (40 * q.2.2.1 + q.2.2.2.1)) (x.2.1 5) q.2.2.2.2)
theorem jm_6 (x : mst) (g : Nat → Int32) : jm x (yrow x 6 g) := ⟨rfl, rfl, by rw [yrow_ne (by decide)], by rw [yrow_ne (by decide)], yrow_ne (by decide), yrow_ne (by decide), yrow_ne (by decide), yrow_ne (by decide), yrow_ne (by decide)⟩
theorem jm_56 (x : mst) (g f : Nat → Int32) : jm (yrow x 5 f) (yrow (yrow x 6 g) 5 f) := by
  refine ⟨rfl, rfl, ?_, ?_, ?_, ?_, ?_, ?_, ?_⟩
  · rw [yrow_ne (by decide), yrow_ne (by decide), yrow_ne (by decide)]
  · rw [yrow_ne (by decide), yrow_ne (by decide), yrow_ne (by decide)]
  · rw [yrow_ne (by decide), yrow_ne (by decide), yrow_ne (by decide)]
  · rw [yrow_ne (by decide), yrow_ne (by decide), yrow_ne (by decide)]
  · rw [yrow_ne (by decide), yrow_ne (by decide), yrow_ne (by decide)]
  · rw [yrow_ne (by decide), yrow_ne (by decide), yrow_ne (by decide)]
  · rw [yrow_at, yrow_at]
theorem i64_add {a b : Nat} (ha : a < 2 ^ 31) (hb : b < 2 ^ 31) : ((nI a).toInt64 + (nI b).toInt64).toInt = (a : Int) + b := by
  rw [Int64.toInt_add, Int32.toInt_toInt64, Int32.toInt_toInt64, nI_toInt ha, nI_toInt hb]
  rw [Int.bmod_def]
  show (if ((a : Int) + b) % 18446744073709551616 < (18446744073709551616 + 1) / 2 then _ else _) = _
  split <;> omega
theorem cp_long {fr n : Int32} {sz : Nat} (hs : sz ≤ 40) (h1 : ¬ fr < 0) (h2 : ¬ n < 0) : (0 < lg_cmp (fr.toInt64 + n.toInt64) (nI sz).toInt64) ↔ nI sz - n < fr := by
  obtain ⟨a, ha, rfl⟩ := nI_of h1
  obtain ⟨b, hb, rfl⟩ := nI_of h2
  have sub : (nI sz - nI b).toInt = (sz : Int) - b := by
    rw [Int32.toInt_sub, nI_toInt (by omega), nI_toInt hb]
    rw [Int.bmod_def]
    show (if ((sz : Int) - b) % 4294967296 < (4294967296 + 1) / 2 then _ else _) = _
    split <;> omega
  rw [lg_cmp_gt, Int64.lt_iff_toInt_lt, Int32.lt_iff_toInt_lt, sub, i64_add ha hb, Int32.toInt_toInt64, nI_toInt (by omega), nI_toInt ha]
  omega
theorem bit_ne {b1 b2 : Int32} (h1 : b1 = 0 ∨ b1 = 8 ∨ b1 = 16 ∨ b1 = 32) (h2 : b2 = 0 ∨ b2 = 8 ∨ b2 = 16 ∨ b2 = 32) (n1 : ¬ b1 = 0) (n2 : ¬ b2 = 0) : tOf b1 = tOf b2 ↔ b1 = b2 := by
  rcases h1 with h | h | h | h <;> rcases h2 with g | g | g | g <;> subst h <;> subst g <;> first | exact absurd rfl n1 | exact absurd rfl n2 | decide
theorem sh_4 (x : mst) (sn : Nat) (b c : Int32) (g : Nat → Int32) : (yrow (yr (yr x 3 sn b) 4 sn c) 5 g).2.1 4 sn = c := by
  rw [yrow_ne (by decide), yr_at]
  simp [upd]
theorem shM_n {y : mst} {k : Nat} (h : y.2.1 3 k = 0) : shMq y k = none := if_pos h
theorem shM_s {y : mst} {k sz : Nat} (e : y.2.1 4 k = nI sz) (hs : sz < 2 ^ 31) (h : ¬ y.2.1 3 k = 0) : shMq y k = some (tOf (y.2.1 3 k), sz, fun i => y.2.1 5 (40 * k + i)) := by
  rw [shMq, if_neg h, e, nI_clamp hs]
theorem cp_ng {fr n : Int32} {sz : Nat} (h : ¬ 0 < lg_cmp (fr.toInt64 + n.toInt64) (nI sz).toInt64) (hs : sz ≤ 40) (h1 : ¬ fr < 0) (h2 : ¬ n < 0) : ¬ nI sz - n < fr := fun z => h ((cp_long hs h1 h2).mpr z)
theorem cp_itr (g0 g : Nat → Int32) (a : Nat) {n j : Nat} (h : j < n) : itr (cpS g0 a 0) g n j = g0 (a + j) := by
  induction n with
  | zero => omega
  | succ n ih =>
    rw [itr_s, cpS, Nat.zero_add]
    unfold upd
    by_cases e : j = n
    · rw [if_pos e, e]
    · rw [if_neg e]; exact ih (by omega)
theorem k_X13_whyNone_l {l : Launch} {D : va_G} {L : Nat → Nat} {A : Nat → Prop} (x : mst) (v : Int32) (kq : Nat) (hz : shq (shMq x) v = .inl kq) : Met l yX13_whyNone (ws_ yX13_whyNone cX13_whyNone 2 (some .int)) ({ frames := 2, cells := 0, slots := 0, locals := 45 } : Room) (va_Pc [.ref (L 0), .int v] (pI D (cfM D L x) A)) (rQ (.int (nI kq))) 0 0 nof := by
  refine met_I (by decide) rfl (Nat.le_of_ble_eq_true rfl) ?_
  intro p e s m below meth c ls hx hb hr hml hown hts hlocks hl hI hK
  have F : CallFix p m c cX13_whyNone 2 s _ lw_all RX13 := ⟨hx, hb, hml, hown, hts⟩
  have hl : lv_has ls 2 [(0, .ref (L 0)), (1, .int v)] := hl
  refine lv_iload_n hx hb dX13_whyNone_0 rfl (lv_at hl 1 rfl) ?_
  refine c_r (k_S (As := [.int v]) (rest := []) F (k_X13_isSheet v) (va_cwS 1 hts (lw_S q1460 q1461 q107 q1462) rfl rfl rfl (by decide +kernel) ⟨Nat.le_of_ble_eq_true rfl, Nat.le_of_ble_eq_true rfl⟩) rfl hl.1 rfl (Nat.le_of_ble_eq_true rfl) dX13_whyNone_1 ⟨Nat.le_of_ble_eq_true rfl, Nat.le_of_ble_eq_true rfl⟩) ?_
  refine lv_if_ne (tgt := 11) hx hb dX13_whyNone_4 (by decide) (fun c_4 => ?_) (fun c_4 => ?_)
  · skip
    obtain ⟨sn, hs, ev⟩ := inI_to (b := 3) rfl (by decide) c_4
    have hs : sn < 4 := by omega
    subst ev
    refine lv_aload_n hx hb dX13_whyNone_11 rfl (lv_at hl 0 rfl) ?_
    refine r_get (C := RX13) (T := TX13) (N := 18) hx hb hts in_X13 hown hK hI (mf_main) rfl 14 (by decide) (hts _ q1178) (fun _ h => h) rfl dX13_whyNone_12 ?_
    refine lv_iload_n hx hb dX13_whyNone_15 rfl (lv_at hl 1 rfl) ?_
    refine n_iald (k := sn) hx hb hK hI (mf_bits) (rfl) (by omega) (by decide) dX13_whyNone_16 ?_
    refine lv_if_ne (tgt := 24) hx hb dX13_whyNone_17 (by decide) (fun c_17 => ?_) (fun c_17 => ?_)
    · skip
      exact (fun z => by cases z) ((shq_v hs c_17).symm.trans hz)
    · skip
      refine lv_iconst (v := 5) hx hb dX13_whyNone_20 (by decide) ?_
      refine lv_goto (tgt := 25) hx hb dX13_whyNone_21 (by decide) ?_
      exact W.iret hx hb hr (fun t ht _ => ⟨rI (by first | (rw [shq_0 c_4] at hz; cases hz; rfl) | (rw [shq_5 hs c_17] at hz; cases hz; rfl)), ht⟩) (fun q h => by cases h) dX13_whyNone_25
  · skip
    refine lv_iconst (v := 0) hx hb dX13_whyNone_7 (by decide) ?_
    refine lv_goto (tgt := 25) hx hb dX13_whyNone_8 (by decide) ?_
    exact W.iret hx hb hr (fun t ht _ => ⟨rI (by first | (rw [shq_0 c_4] at hz; cases hz; rfl) | (rw [shq_5 hs c_17] at hz; cases hz; rfl)), ht⟩) (fun q h => by cases h) dX13_whyNone_25
theorem k_X13_whyNone_r {l : Launch} {D : va_G} {L : Nat → Nat} {A : Nat → Prop} (x : mst) (sn : Nat) (hs : sn < 4) (hb0 : ¬ x.2.1 3 sn = 0) : Met l yX13_whyNone (ws_ yX13_whyNone cX13_whyNone 2 (some .int)) ({ frames := 2, cells := 0, slots := 0, locals := 45 } : Room) (va_Pc [.ref (L 0), .int (nI sn)] (pI D (cfM D L x) A)) (rQ (.int (-1))) 0 0 nof := by
  refine met_I (by decide) rfl (Nat.le_of_ble_eq_true rfl) ?_
  intro p e s m below meth c ls hx hb hr hml hown hts hlocks hl hI hK
  have F : CallFix p m c cX13_whyNone 2 s _ lw_all RX13 := ⟨hx, hb, hml, hown, hts⟩
  have hl : lv_has ls 2 [(0, .ref (L 0)), (1, .int (nI sn))] := hl
  refine lv_iload_n hx hb dX13_whyNone_0 rfl (lv_at hl 1 rfl) ?_
  refine c_r (k_S (As := [.int (nI sn)]) (rest := []) F (k_X13_isSheet (nI sn)) (va_cwS 1 hts (lw_S q1460 q1461 q107 q1462) rfl rfl rfl (by decide +kernel) ⟨Nat.le_of_ble_eq_true rfl, Nat.le_of_ble_eq_true rfl⟩) rfl hl.1 rfl (Nat.le_of_ble_eq_true rfl) dX13_whyNone_1 ⟨Nat.le_of_ble_eq_true rfl, Nat.le_of_ble_eq_true rfl⟩) ?_
  refine lv_if_ne (tgt := 11) hx hb dX13_whyNone_4 (by decide) (fun c_4 => ?_) (fun c_4 => ?_)
  · skip
    refine lv_aload_n hx hb dX13_whyNone_11 rfl (lv_at hl 0 rfl) ?_
    refine r_get (C := RX13) (T := TX13) (N := 18) hx hb hts in_X13 hown hK hI (mf_main) rfl 14 (by decide) (hts _ q1178) (fun _ h => h) rfl dX13_whyNone_12 ?_
    refine lv_iload_n hx hb dX13_whyNone_15 rfl (lv_at hl 1 rfl) ?_
    refine n_iald (k := sn) hx hb hK hI (mf_bits) (rfl) (by omega) (by decide) dX13_whyNone_16 ?_
    refine lv_if_ne (tgt := 24) hx hb dX13_whyNone_17 (by decide) (fun c_17 => ?_) (fun c_17 => ?_)
    · skip
      refine lv_iconst (v := (-1)) hx hb dX13_whyNone_24 (by decide) ?_
      exact W.iret hx hb hr (fun t ht _ => ⟨rI (rfl), ht⟩) (fun q h => by cases h) dX13_whyNone_25
    · skip
      exact absurd c_17 hb0
  · skip
    exact absurd c_4 (in03 hs)
set_option maxHeartbeats 1000000 in
theorem k_X13_sheet {l : Launch} {D : va_G} {L : Nat → Nat} {A : Nat → Prop} (x : mst) (s0 b n : Int32) : Met l yX13_sheet (ws_ yX13_sheet cX13_sheet 5 (some .int)) ({ frames := 2, cells := 0, slots := 0, locals := 45 } : Room) (va_Pc [.ref (L 0), .int s0, .int b, .int n] (pI D (cfM D L x) A)) (nQ D (cfM D L (aMS x s0 b n (a_sheet s0 b n))) A (some (.int (aS (a_sheet s0 b n))))) 0 0 A := by
  refine met_I (by decide) rfl (Nat.le_of_ble_eq_true rfl) ?_
  intro p e s m below meth c ls hx hb hr hml hown hts hlocks hl hI hK
  have F : CallFix p m c cX13_sheet 5 s _ lw_all RX13 := ⟨hx, hb, hml, hown, hts⟩
  have hl : lv_has ls 5 [(0, .ref (L 0)), (1, .int s0), (2, .int b), (3, .int n)] := hl
  have hS : va_S A s.heap s.heap [] := va_S.rf
  refine lv_iload_n hx hb dX13_sheet_0 rfl (lv_at hl 1 rfl) ?_
  refine c_r (k_S (As := [.int s0]) (rest := []) F (k_X13_isSheet s0) (va_cwS 1 hts (lw_S q1460 q1461 q107 q1462) rfl rfl rfl (by decide +kernel) ⟨Nat.le_of_ble_eq_true rfl, Nat.le_of_ble_eq_true rfl⟩) rfl hl.1 rfl (Nat.le_of_ble_eq_true rfl) dX13_sheet_1 ⟨Nat.le_of_ble_eq_true rfl, Nat.le_of_ble_eq_true rfl⟩) ?_
  refine lv_if_eq (tgt := 29) hx hb dX13_sheet_4 (by decide) (fun c_4 => ?_) (fun c_4 => ?_)
  · skip
    refine lv_aload_n hx hb dX13_sheet_29 rfl (lv_at hl 0 rfl) ?_
    refine lv_iconst (v := 0) hx hb dX13_sheet_30 (by decide) ?_
    refine c_m (k_V (As := [.int 0]) (rest := []) F (k_X13_finds x 0 (by decide)) (cwV 1 hts (lw_V q1238 q1240 qs47 q107 q1241) rfl rfl rfl (by decide +kernel) ⟨Nat.le_of_ble_eq_true rfl, Nat.le_of_ble_eq_true rfl⟩) hI hK (hw.recv hI hK (mf_main) rfl) rfl hl.1 rfl (Nat.le_of_ble_eq_true rfl) dX13_sheet_31 ⟨Nat.le_of_ble_eq_true rfl, Nat.le_of_ble_eq_true rfl⟩) hS (fun H1 locs1 hI hS => ?_)
    obtain ⟨x1, ex1⟩ : ∃ z, z = (fndM x 0) := ⟨_, rfl⟩
    rw [← ex1] at hI
    exact W.iret hx hb hr (fun t ht _ => ⟨rI (by rw [a_sheet]; first | (rw [if_pos c_4]; rfl) | (rw [if_neg c_4, if_neg (by simp [c_4])]; rfl)), by rw [ht]; exact hw_eq hI (congrArg (cfM D L) (by rw [a_sheet, ex1]; first | (rw [if_pos c_4]; rfl) | (rw [if_neg c_4, if_neg (by simp [c_4])]; rfl))), hS.F ht⟩) hS.2.2 dX13_sheet_34
  · skip
    refine lv_iload_n hx hb dX13_sheet_7 rfl (lv_at hl 2 rfl) ?_
    refine lv_if_eq (tgt := 35) hx hb dX13_sheet_8 (by decide) (fun c_8 => ?_) (fun c_8 => ?_)
    · skip
      refine lv_iload_n hx hb dX13_sheet_35 rfl (lv_at hl 3 rfl) ?_
      refine lv_if_ge (tgt := 46) hx hb dX13_sheet_36 (by decide) (fun c_36 => ?_) (fun c_36 => ?_)
      · skip
        have c_36 := Int32.not_lt.mpr c_36
        refine lv_iload_n hx hb dX13_sheet_46 rfl (lv_at hl 3 rfl) ?_
        refine lv_bipush (v := 40) hx hb dX13_sheet_47 (by decide) ?_
        refine lv_icmp_le (tgt := 58) hx hb dX13_sheet_49 (by decide) (fun c_49 => ?_) (fun c_49 => ?_)
        · skip
          have c_49 := Int32.not_lt.mpr c_49
          obtain ⟨sn, hs, es0⟩ := inI_to (b := 3) rfl (by decide) c_4
          have hs : sn < 4 := by omega
          have hbb : b = 0 ∨ b = 8 ∨ b = 16 ∨ b = 32 := by simp [c_4, c_8, c_36, c_49]
          obtain ⟨nq, hnq, en⟩ := nI_of2 (M := 40) (n := 40) rfl c_36 (Int32.not_lt.mp c_49)
          have hA : a_sheet s0 b n = if b = 0 then .inr (0, none) else .inr (n, some (if b = 8 then 0 else if b = 16 then 1 else 2, n.toNatClampNeg, fun _ => 0)) := by rw [a_sheet, if_neg c_4, if_pos hbb, if_neg c_36, if_neg c_49]
          subst es0
          subst en
          refine lv_aload_n hx hb dX13_sheet_58 rfl (lv_at hl 0 rfl) ?_
          refine r_get (C := RX13) (T := TX13) (N := 18) hx hb hts in_X13 hown hK hI (mf_main) rfl 14 (by decide) (hts _ q1178) (fun _ h => h) rfl dX13_sheet_59 ?_
          refine lv_iload_n hx hb dX13_sheet_62 rfl (lv_at hl 1 rfl) ?_
          refine lv_iload_n hx hb dX13_sheet_63 rfl (lv_at hl 2 rfl) ?_
          obtain ⟨x2, ex2⟩ : ∃ z, z = yr x 3 sn b := ⟨_, rfl⟩
          refine n_iast (cf' := cfM D L x2) (k := sn) hx hb hK hI hS (mf_bits) (rfl) (by omega) (by decide) (by rw [ex2]; exact ms_r (r := 3) (by decide) (by decide) mf_bits) dX13_sheet_64 (fun H1 locs1 hI hS => ?_)
          refine lv_aload_n hx hb dX13_sheet_65 rfl (lv_at hl 0 rfl) ?_
          refine r_get (C := RX13) (T := TX13) (N := 18) hx hb hts in_X13 hown hK hI (mf_main) rfl 15 (by decide) (hts _ q1179) (fun _ h => h) rfl dX13_sheet_66 ?_
          refine lv_iload_n hx hb dX13_sheet_69 rfl (lv_at hl 1 rfl) ?_
          refine lv_iload_n hx hb dX13_sheet_70 rfl (lv_at hl 2 rfl) ?_
          refine lv_if_ne (tgt := 78) hx hb dX13_sheet_71 (by decide) (fun c_71 => ?_) (fun c_71 => ?_)
          · skip
            refine lv_iload_n hx hb dX13_sheet_78 rfl (lv_at hl 3 rfl) ?_
            obtain ⟨x3, ex3⟩ : ∃ z, z = yr x2 4 sn (nI nq) := ⟨_, rfl⟩
            refine n_iast (cf' := cfM D L x3) (k := sn) hx hb hK hI hS (mf_size) (rfl) (by omega) (by decide) (by rw [ex3]; exact ms_r (r := 4) (by decide) (by decide) mf_size) dX13_sheet_79 (fun H1 locs1 hI hS => ?_)
            refine lv_iconst (v := 0) hx hb dX13_sheet_80 (by decide) ?_
            refine lv_istore (lv' := [(4, .int 0), (0, .ref (L 0)), (1, .int (nI sn)), (2, .int b), (3, .int (nI nq))]) hx hb dX13_sheet_81 hl (by decide) rfl (fun ls hl => ?_)
            have lp83 : ∀ (fuel : Nat) (i : Nat), (i ≤ 40) → 40 - i < fuel → ∀ (v4 : Int32), v4 = nI i → ∀ (xc83 : mst), xc83 = yrow (yr (yr x 3 sn b) 4 sn (if b = 0 then 0 else nI nq)) 5 (itr (clS sn) (x.2.1 5) i) → ∀ (H : Heap) (locs : List Loc), hw D (cfM D L xc83) A H → va_S A s.heap H locs → ∀ (ls : Array Slot), lv_has ls 5 [(0, .ref (L 0)), (1, .int (nI sn)), (2, .int b), (3, .int (nI nq)), (4, .int v4)] → W p l e ({ frames := 2, cells := 0, slots := 0, locals := 45 } : Room) s m ([.ref (L 0), .int (nI sn), .int b, .int (nI nq)] : List Value).toArray below meth c H locs 0 0 (MQ below (nQ D (cfM D L (aMS x (nI sn) b (nI nq) (a_sheet (nI sn) b (nI nq)))) A (some (.int (aS (a_sheet (nI sn) b (nI nq)))))) ([.ref (L 0), .int (nI sn), .int b, .int (nI nq)] : List Value).toArray s 0 0 A) (F0 m 83 ls []) := by
              intro fuel
              induction fuel with
              | zero => intro i hi hf; exact absurd hf (Nat.not_lt_zero _)
              | succ fuel ih83 =>
                intro i hi hf83 v4 e4  xc83 exc83 H locs hI hS ls hl
                subst e4
                refine lv_iload hx hb dX13_sheet_83 (lv_at hl 4 rfl) ?_
                refine lv_bipush (v := 40) hx hb dX13_sheet_85 (by decide) ?_
                refine lv_icmp_ge (tgt := 109) hx hb dX13_sheet_87 (by decide) (fun c_87 => ?_) (fun c_87 => ?_)
                · skip
                  have c_87 : 40 ≤ i := (nle (a := 40) (b := i) (rfl) (rfl) (by omega) (by omega)).mp c_87
                  refine lv_aload_n hx hb dX13_sheet_109 rfl (lv_at hl 0 rfl) ?_
                  refine r_get (C := RX13) (T := TX13) (N := 18) hx hb hts in_X13 hown hK hI (mf_main) rfl 15 (by decide) (hts _ q1179) (fun _ h => h) rfl dX13_sheet_110 ?_
                  refine lv_iload_n hx hb dX13_sheet_113 rfl (lv_at hl 1 rfl) ?_
                  refine n_iald (k := sn) hx hb hK hI (mf_size) (rfl) (by omega) (by decide) dX13_sheet_114 ?_
                  exact W.iret hx hb hr (fun t ht _ => ⟨rI (by rw [hA, exc83]; first | (rw [if_pos c_71, sh_4, if_pos c_71]; rfl) | (rw [if_neg c_71, sh_4, if_neg c_71]; rfl)), by rw [ht]; exact hw_eq hI (congrArg (cfM D L) (by rw [hA, exc83, show i = 40 by omega]; first | (rw [if_pos c_71, if_pos c_71, aMS, nI_clamp (by omega)]; rfl) | (rw [if_neg c_71, if_neg c_71, aMS, nI_clamp (by omega)]; rfl))), hS.F ht⟩) hS.2.2 dX13_sheet_115
                · skip
                  have c_87 : ¬ 40 ≤ i := fun z => c_87 ((nle (a := 40) (b := i) (rfl) (rfl) (by omega) (by omega)).mpr z)
                  refine lv_aload_n hx hb dX13_sheet_90 rfl (lv_at hl 0 rfl) ?_
                  refine r_get (C := RX13) (T := TX13) (N := 18) hx hb hts in_X13 hown hK hI (mf_main) rfl 16 (by decide) (hts _ q1180) (fun _ h => h) rfl dX13_sheet_91 ?_
                  refine lv_bipush (v := 40) hx hb dX13_sheet_94 (by decide) ?_
                  refine lv_iload_n hx hb dX13_sheet_96 rfl (lv_at hl 1 rfl) ?_
                  refine lv_imul hx hb dX13_sheet_97 ?_
                  refine lv_iload hx hb dX13_sheet_98 (lv_at hl 4 rfl) ?_
                  refine lv_iadd hx hb dX13_sheet_100 ?_
                  refine lv_iconst (v := 0) hx hb dX13_sheet_101 (by decide) ?_
                  obtain ⟨x4, ex4⟩ : ∃ z, z = yr xc83 5 ((40 * sn) + i) 0 := ⟨_, rfl⟩
                  refine n_iast (cf' := cfM D L x4) (k := ((40 * sn) + i)) hx hb hK hI hS (mf_num) (na_add (na_mul (rfl) (rfl)) (rfl)) (by omega) (by decide) (by rw [ex4]; exact ms_r (r := 5) (by decide) (by decide) mf_num) dX13_sheet_102 (fun H1 locs1 hI hS => ?_)
                  refine lv_iinc (v := (nI (i + 1))) (lv' := [(4, .int (nI (i + 1))), (0, .ref (L 0)), (1, .int (nI sn)), (2, .int b), (3, .int (nI nq))]) hx hb dX13_sheet_103 hl (k := 4) rfl (nI_1 _) (by decide) rfl (fun ls hl => ?_)
                  refine lv_goto (tgt := 83) hx hb dX13_sheet_106 (by decide) ?_
                  exact ih83 (i + 1) (by omega) (by omega) (nI (i + 1)) (rfl) x4 (by rw [ex4, exc83, yr_row]; rfl) _ _ hI hS ls (lv_sub hl [1, 2, 3, 4, 0] rfl)
            exact lp83 (_ + 1) (0) (Nat.zero_le _) (Nat.lt_succ_self _) 0 (rfl) x3 (by rw [ex3, ex2]; (first | rw [if_pos c_71] | rw [if_neg c_71]); exact (yrow_self (yr (yr x 3 sn b) 4 sn _) 5).symm) _ _ hI hS ls (lv_sub hl [1, 2, 3, 4, 0] rfl)
          · skip
            refine lv_iconst (v := 0) hx hb dX13_sheet_74 (by decide) ?_
            refine lv_goto (tgt := 79) hx hb dX13_sheet_75 (by decide) ?_
            obtain ⟨x5, ex5⟩ : ∃ z, z = yr x2 4 sn 0 := ⟨_, rfl⟩
            refine n_iast (cf' := cfM D L x5) (k := sn) hx hb hK hI hS (mf_size) (rfl) (by omega) (by decide) (by rw [ex5]; exact ms_r (r := 4) (by decide) (by decide) mf_size) dX13_sheet_79 (fun H1 locs1 hI hS => ?_)
            refine lv_iconst (v := 0) hx hb dX13_sheet_80 (by decide) ?_
            refine lv_istore (lv' := [(4, .int 0), (0, .ref (L 0)), (1, .int (nI sn)), (2, .int b), (3, .int (nI nq))]) hx hb dX13_sheet_81 hl (by decide) rfl (fun ls hl => ?_)
            have lp83 : ∀ (fuel : Nat) (i : Nat), (i ≤ 40) → 40 - i < fuel → ∀ (v4 : Int32), v4 = nI i → ∀ (xc83 : mst), xc83 = yrow (yr (yr x 3 sn b) 4 sn (if b = 0 then 0 else nI nq)) 5 (itr (clS sn) (x.2.1 5) i) → ∀ (H : Heap) (locs : List Loc), hw D (cfM D L xc83) A H → va_S A s.heap H locs → ∀ (ls : Array Slot), lv_has ls 5 [(0, .ref (L 0)), (1, .int (nI sn)), (2, .int b), (3, .int (nI nq)), (4, .int v4)] → W p l e ({ frames := 2, cells := 0, slots := 0, locals := 45 } : Room) s m ([.ref (L 0), .int (nI sn), .int b, .int (nI nq)] : List Value).toArray below meth c H locs 0 0 (MQ below (nQ D (cfM D L (aMS x (nI sn) b (nI nq) (a_sheet (nI sn) b (nI nq)))) A (some (.int (aS (a_sheet (nI sn) b (nI nq)))))) ([.ref (L 0), .int (nI sn), .int b, .int (nI nq)] : List Value).toArray s 0 0 A) (F0 m 83 ls []) := by
              intro fuel
              induction fuel with
              | zero => intro i hi hf; exact absurd hf (Nat.not_lt_zero _)
              | succ fuel ih83 =>
                intro i hi hf83 v4 e4  xc83 exc83 H locs hI hS ls hl
                subst e4
                refine lv_iload hx hb dX13_sheet_83 (lv_at hl 4 rfl) ?_
                refine lv_bipush (v := 40) hx hb dX13_sheet_85 (by decide) ?_
                refine lv_icmp_ge (tgt := 109) hx hb dX13_sheet_87 (by decide) (fun c_87 => ?_) (fun c_87 => ?_)
                · skip
                  have c_87 : 40 ≤ i := (nle (a := 40) (b := i) (rfl) (rfl) (by omega) (by omega)).mp c_87
                  refine lv_aload_n hx hb dX13_sheet_109 rfl (lv_at hl 0 rfl) ?_
                  refine r_get (C := RX13) (T := TX13) (N := 18) hx hb hts in_X13 hown hK hI (mf_main) rfl 15 (by decide) (hts _ q1179) (fun _ h => h) rfl dX13_sheet_110 ?_
                  refine lv_iload_n hx hb dX13_sheet_113 rfl (lv_at hl 1 rfl) ?_
                  refine n_iald (k := sn) hx hb hK hI (mf_size) (rfl) (by omega) (by decide) dX13_sheet_114 ?_
                  exact W.iret hx hb hr (fun t ht _ => ⟨rI (by rw [hA, exc83]; first | (rw [if_pos c_71, sh_4, if_pos c_71]; rfl) | (rw [if_neg c_71, sh_4, if_neg c_71]; rfl)), by rw [ht]; exact hw_eq hI (congrArg (cfM D L) (by rw [hA, exc83, show i = 40 by omega]; first | (rw [if_pos c_71, if_pos c_71, aMS, nI_clamp (by omega)]; rfl) | (rw [if_neg c_71, if_neg c_71, aMS, nI_clamp (by omega)]; rfl))), hS.F ht⟩) hS.2.2 dX13_sheet_115
                · skip
                  have c_87 : ¬ 40 ≤ i := fun z => c_87 ((nle (a := 40) (b := i) (rfl) (rfl) (by omega) (by omega)).mpr z)
                  refine lv_aload_n hx hb dX13_sheet_90 rfl (lv_at hl 0 rfl) ?_
                  refine r_get (C := RX13) (T := TX13) (N := 18) hx hb hts in_X13 hown hK hI (mf_main) rfl 16 (by decide) (hts _ q1180) (fun _ h => h) rfl dX13_sheet_91 ?_
                  refine lv_bipush (v := 40) hx hb dX13_sheet_94 (by decide) ?_
                  refine lv_iload_n hx hb dX13_sheet_96 rfl (lv_at hl 1 rfl) ?_
                  refine lv_imul hx hb dX13_sheet_97 ?_
                  refine lv_iload hx hb dX13_sheet_98 (lv_at hl 4 rfl) ?_
                  refine lv_iadd hx hb dX13_sheet_100 ?_
                  refine lv_iconst (v := 0) hx hb dX13_sheet_101 (by decide) ?_
                  obtain ⟨x6, ex6⟩ : ∃ z, z = yr xc83 5 ((40 * sn) + i) 0 := ⟨_, rfl⟩
                  refine n_iast (cf' := cfM D L x6) (k := ((40 * sn) + i)) hx hb hK hI hS (mf_num) (na_add (na_mul (rfl) (rfl)) (rfl)) (by omega) (by decide) (by rw [ex6]; exact ms_r (r := 5) (by decide) (by decide) mf_num) dX13_sheet_102 (fun H1 locs1 hI hS => ?_)
                  refine lv_iinc (v := (nI (i + 1))) (lv' := [(4, .int (nI (i + 1))), (0, .ref (L 0)), (1, .int (nI sn)), (2, .int b), (3, .int (nI nq))]) hx hb dX13_sheet_103 hl (k := 4) rfl (nI_1 _) (by decide) rfl (fun ls hl => ?_)
                  refine lv_goto (tgt := 83) hx hb dX13_sheet_106 (by decide) ?_
                  exact ih83 (i + 1) (by omega) (by omega) (nI (i + 1)) (rfl) x6 (by rw [ex6, exc83, yr_row]; rfl) _ _ hI hS ls (lv_sub hl [1, 2, 3, 4, 0] rfl)
            exact lp83 (_ + 1) (0) (Nat.zero_le _) (Nat.lt_succ_self _) 0 (rfl) x5 (by rw [ex5, ex2]; (first | rw [if_pos c_71] | rw [if_neg c_71]); exact (yrow_self (yr (yr x 3 sn b) 4 sn _) 5).symm) _ _ hI hS ls (lv_sub hl [1, 2, 3, 4, 0] rfl)
        · skip
          have c_49 := Int32.not_le.mp c_49
          refine lv_aload_n hx hb dX13_sheet_52 rfl (lv_at hl 0 rfl) ?_
          refine lv_iconst (v := 0) hx hb dX13_sheet_53 (by decide) ?_
          refine c_m (k_V (As := [.int 0]) (rest := []) F (k_X13_finds x 0 (by decide)) (cwV 1 hts (lw_V q1238 q1240 qs47 q107 q1241) rfl rfl rfl (by decide +kernel) ⟨Nat.le_of_ble_eq_true rfl, Nat.le_of_ble_eq_true rfl⟩) hI hK (hw.recv hI hK (mf_main) rfl) rfl hl.1 rfl (Nat.le_of_ble_eq_true rfl) dX13_sheet_54 ⟨Nat.le_of_ble_eq_true rfl, Nat.le_of_ble_eq_true rfl⟩) hS (fun H1 locs1 hI hS => ?_)
          obtain ⟨x7, ex7⟩ : ∃ z, z = (fndM x 0) := ⟨_, rfl⟩
          rw [← ex7] at hI
          exact W.iret hx hb hr (fun t ht _ => ⟨rI (by rw [a_sheet, if_neg c_4, if_pos (by simp [c_4, c_8, c_36, c_49]), if_neg c_36, if_pos c_49]; rfl), by rw [ht]; exact hw_eq hI (congrArg (cfM D L) (by rw [a_sheet, ex7, if_neg c_4, if_pos (by simp [c_4, c_8, c_36, c_49]), if_neg c_36, if_pos c_49]; rfl)), hS.F ht⟩) hS.2.2 dX13_sheet_57
      · skip
        have c_36 := Int32.not_le.mp c_36
        refine lv_aload_n hx hb dX13_sheet_39 rfl (lv_at hl 0 rfl) ?_
        refine lv_bipush (v := 6) hx hb dX13_sheet_40 (by decide) ?_
        refine c_m (k_V (As := [.int 6]) (rest := []) F (k_X13_finds x 6 (by decide)) (cwV 1 hts (lw_V q1238 q1240 qs47 q107 q1241) rfl rfl rfl (by decide +kernel) ⟨Nat.le_of_ble_eq_true rfl, Nat.le_of_ble_eq_true rfl⟩) hI hK (hw.recv hI hK (mf_main) rfl) rfl hl.1 rfl (Nat.le_of_ble_eq_true rfl) dX13_sheet_42 ⟨Nat.le_of_ble_eq_true rfl, Nat.le_of_ble_eq_true rfl⟩) hS (fun H1 locs1 hI hS => ?_)
        obtain ⟨x8, ex8⟩ : ∃ z, z = (fndM x 6) := ⟨_, rfl⟩
        rw [← ex8] at hI
        exact W.iret hx hb hr (fun t ht _ => ⟨rI (by rw [a_sheet, if_neg c_4, if_pos (by simp [c_4, c_8, c_36]), if_pos (Int32.not_le.mp (fun z => absurd z (Int32.not_le.mpr c_36)))]; rfl), by rw [ht]; exact hw_eq hI (congrArg (cfM D L) (by rw [a_sheet, ex8, if_neg c_4, if_pos (by simp [c_4, c_8, c_36]), if_pos c_36]; rfl)), hS.F ht⟩) hS.2.2 dX13_sheet_45
    · skip
      refine lv_iload_n hx hb dX13_sheet_11 rfl (lv_at hl 2 rfl) ?_
      refine lv_bipush (v := 8) hx hb dX13_sheet_12 (by decide) ?_
      refine lv_icmp_eq (tgt := 35) hx hb dX13_sheet_14 (by decide) (fun c_14 => ?_) (fun c_14 => ?_)
      · skip
        refine lv_iload_n hx hb dX13_sheet_35 rfl (lv_at hl 3 rfl) ?_
        refine lv_if_ge (tgt := 46) hx hb dX13_sheet_36 (by decide) (fun c_36 => ?_) (fun c_36 => ?_)
        · skip
          have c_36 := Int32.not_lt.mpr c_36
          refine lv_iload_n hx hb dX13_sheet_46 rfl (lv_at hl 3 rfl) ?_
          refine lv_bipush (v := 40) hx hb dX13_sheet_47 (by decide) ?_
          refine lv_icmp_le (tgt := 58) hx hb dX13_sheet_49 (by decide) (fun c_49 => ?_) (fun c_49 => ?_)
          · skip
            have c_49 := Int32.not_lt.mpr c_49
            obtain ⟨sn, hs, es0⟩ := inI_to (b := 3) rfl (by decide) c_4
            have hs : sn < 4 := by omega
            have hbb : b = 0 ∨ b = 8 ∨ b = 16 ∨ b = 32 := by simp [c_4, c_8, c_14, c_36, c_49]
            obtain ⟨nq, hnq, en⟩ := nI_of2 (M := 40) (n := 40) rfl c_36 (Int32.not_lt.mp c_49)
            have hA : a_sheet s0 b n = if b = 0 then .inr (0, none) else .inr (n, some (if b = 8 then 0 else if b = 16 then 1 else 2, n.toNatClampNeg, fun _ => 0)) := by rw [a_sheet, if_neg c_4, if_pos hbb, if_neg c_36, if_neg c_49]
            subst es0
            subst en
            refine lv_aload_n hx hb dX13_sheet_58 rfl (lv_at hl 0 rfl) ?_
            refine r_get (C := RX13) (T := TX13) (N := 18) hx hb hts in_X13 hown hK hI (mf_main) rfl 14 (by decide) (hts _ q1178) (fun _ h => h) rfl dX13_sheet_59 ?_
            refine lv_iload_n hx hb dX13_sheet_62 rfl (lv_at hl 1 rfl) ?_
            refine lv_iload_n hx hb dX13_sheet_63 rfl (lv_at hl 2 rfl) ?_
            obtain ⟨x9, ex9⟩ : ∃ z, z = yr x 3 sn b := ⟨_, rfl⟩
            refine n_iast (cf' := cfM D L x9) (k := sn) hx hb hK hI hS (mf_bits) (rfl) (by omega) (by decide) (by rw [ex9]; exact ms_r (r := 3) (by decide) (by decide) mf_bits) dX13_sheet_64 (fun H1 locs1 hI hS => ?_)
            refine lv_aload_n hx hb dX13_sheet_65 rfl (lv_at hl 0 rfl) ?_
            refine r_get (C := RX13) (T := TX13) (N := 18) hx hb hts in_X13 hown hK hI (mf_main) rfl 15 (by decide) (hts _ q1179) (fun _ h => h) rfl dX13_sheet_66 ?_
            refine lv_iload_n hx hb dX13_sheet_69 rfl (lv_at hl 1 rfl) ?_
            refine lv_iload_n hx hb dX13_sheet_70 rfl (lv_at hl 2 rfl) ?_
            refine lv_if_ne (tgt := 78) hx hb dX13_sheet_71 (by decide) (fun c_71 => ?_) (fun c_71 => ?_)
            · skip
              refine lv_iload_n hx hb dX13_sheet_78 rfl (lv_at hl 3 rfl) ?_
              obtain ⟨x10, ex10⟩ : ∃ z, z = yr x9 4 sn (nI nq) := ⟨_, rfl⟩
              refine n_iast (cf' := cfM D L x10) (k := sn) hx hb hK hI hS (mf_size) (rfl) (by omega) (by decide) (by rw [ex10]; exact ms_r (r := 4) (by decide) (by decide) mf_size) dX13_sheet_79 (fun H1 locs1 hI hS => ?_)
              refine lv_iconst (v := 0) hx hb dX13_sheet_80 (by decide) ?_
              refine lv_istore (lv' := [(4, .int 0), (0, .ref (L 0)), (1, .int (nI sn)), (2, .int b), (3, .int (nI nq))]) hx hb dX13_sheet_81 hl (by decide) rfl (fun ls hl => ?_)
              have lp83 : ∀ (fuel : Nat) (i : Nat), (i ≤ 40) → 40 - i < fuel → ∀ (v4 : Int32), v4 = nI i → ∀ (xc83 : mst), xc83 = yrow (yr (yr x 3 sn b) 4 sn (if b = 0 then 0 else nI nq)) 5 (itr (clS sn) (x.2.1 5) i) → ∀ (H : Heap) (locs : List Loc), hw D (cfM D L xc83) A H → va_S A s.heap H locs → ∀ (ls : Array Slot), lv_has ls 5 [(0, .ref (L 0)), (1, .int (nI sn)), (2, .int b), (3, .int (nI nq)), (4, .int v4)] → W p l e ({ frames := 2, cells := 0, slots := 0, locals := 45 } : Room) s m ([.ref (L 0), .int (nI sn), .int b, .int (nI nq)] : List Value).toArray below meth c H locs 0 0 (MQ below (nQ D (cfM D L (aMS x (nI sn) b (nI nq) (a_sheet (nI sn) b (nI nq)))) A (some (.int (aS (a_sheet (nI sn) b (nI nq)))))) ([.ref (L 0), .int (nI sn), .int b, .int (nI nq)] : List Value).toArray s 0 0 A) (F0 m 83 ls []) := by
                intro fuel
                induction fuel with
                | zero => intro i hi hf; exact absurd hf (Nat.not_lt_zero _)
                | succ fuel ih83 =>
                  intro i hi hf83 v4 e4  xc83 exc83 H locs hI hS ls hl
                  subst e4
                  refine lv_iload hx hb dX13_sheet_83 (lv_at hl 4 rfl) ?_
                  refine lv_bipush (v := 40) hx hb dX13_sheet_85 (by decide) ?_
                  refine lv_icmp_ge (tgt := 109) hx hb dX13_sheet_87 (by decide) (fun c_87 => ?_) (fun c_87 => ?_)
                  · skip
                    have c_87 : 40 ≤ i := (nle (a := 40) (b := i) (rfl) (rfl) (by omega) (by omega)).mp c_87
                    refine lv_aload_n hx hb dX13_sheet_109 rfl (lv_at hl 0 rfl) ?_
                    refine r_get (C := RX13) (T := TX13) (N := 18) hx hb hts in_X13 hown hK hI (mf_main) rfl 15 (by decide) (hts _ q1179) (fun _ h => h) rfl dX13_sheet_110 ?_
                    refine lv_iload_n hx hb dX13_sheet_113 rfl (lv_at hl 1 rfl) ?_
                    refine n_iald (k := sn) hx hb hK hI (mf_size) (rfl) (by omega) (by decide) dX13_sheet_114 ?_
                    exact W.iret hx hb hr (fun t ht _ => ⟨rI (by rw [hA, exc83]; first | (rw [if_pos c_71, sh_4, if_pos c_71]; rfl) | (rw [if_neg c_71, sh_4, if_neg c_71]; rfl)), by rw [ht]; exact hw_eq hI (congrArg (cfM D L) (by rw [hA, exc83, show i = 40 by omega]; first | (rw [if_pos c_71, if_pos c_71, aMS, nI_clamp (by omega)]; rfl) | (rw [if_neg c_71, if_neg c_71, aMS, nI_clamp (by omega)]; rfl))), hS.F ht⟩) hS.2.2 dX13_sheet_115
                  · skip
                    have c_87 : ¬ 40 ≤ i := fun z => c_87 ((nle (a := 40) (b := i) (rfl) (rfl) (by omega) (by omega)).mpr z)
                    refine lv_aload_n hx hb dX13_sheet_90 rfl (lv_at hl 0 rfl) ?_
                    refine r_get (C := RX13) (T := TX13) (N := 18) hx hb hts in_X13 hown hK hI (mf_main) rfl 16 (by decide) (hts _ q1180) (fun _ h => h) rfl dX13_sheet_91 ?_
                    refine lv_bipush (v := 40) hx hb dX13_sheet_94 (by decide) ?_
                    refine lv_iload_n hx hb dX13_sheet_96 rfl (lv_at hl 1 rfl) ?_
                    refine lv_imul hx hb dX13_sheet_97 ?_
                    refine lv_iload hx hb dX13_sheet_98 (lv_at hl 4 rfl) ?_
                    refine lv_iadd hx hb dX13_sheet_100 ?_
                    refine lv_iconst (v := 0) hx hb dX13_sheet_101 (by decide) ?_
                    obtain ⟨x11, ex11⟩ : ∃ z, z = yr xc83 5 ((40 * sn) + i) 0 := ⟨_, rfl⟩
                    refine n_iast (cf' := cfM D L x11) (k := ((40 * sn) + i)) hx hb hK hI hS (mf_num) (na_add (na_mul (rfl) (rfl)) (rfl)) (by omega) (by decide) (by rw [ex11]; exact ms_r (r := 5) (by decide) (by decide) mf_num) dX13_sheet_102 (fun H1 locs1 hI hS => ?_)
                    refine lv_iinc (v := (nI (i + 1))) (lv' := [(4, .int (nI (i + 1))), (0, .ref (L 0)), (1, .int (nI sn)), (2, .int b), (3, .int (nI nq))]) hx hb dX13_sheet_103 hl (k := 4) rfl (nI_1 _) (by decide) rfl (fun ls hl => ?_)
                    refine lv_goto (tgt := 83) hx hb dX13_sheet_106 (by decide) ?_
                    exact ih83 (i + 1) (by omega) (by omega) (nI (i + 1)) (rfl) x11 (by rw [ex11, exc83, yr_row]; rfl) _ _ hI hS ls (lv_sub hl [1, 2, 3, 4, 0] rfl)
              exact lp83 (_ + 1) (0) (Nat.zero_le _) (Nat.lt_succ_self _) 0 (rfl) x10 (by rw [ex10, ex9]; (first | rw [if_pos c_71] | rw [if_neg c_71]); exact (yrow_self (yr (yr x 3 sn b) 4 sn _) 5).symm) _ _ hI hS ls (lv_sub hl [1, 2, 3, 4, 0] rfl)
            · skip
              refine lv_iconst (v := 0) hx hb dX13_sheet_74 (by decide) ?_
              refine lv_goto (tgt := 79) hx hb dX13_sheet_75 (by decide) ?_
              obtain ⟨x12, ex12⟩ : ∃ z, z = yr x9 4 sn 0 := ⟨_, rfl⟩
              refine n_iast (cf' := cfM D L x12) (k := sn) hx hb hK hI hS (mf_size) (rfl) (by omega) (by decide) (by rw [ex12]; exact ms_r (r := 4) (by decide) (by decide) mf_size) dX13_sheet_79 (fun H1 locs1 hI hS => ?_)
              refine lv_iconst (v := 0) hx hb dX13_sheet_80 (by decide) ?_
              refine lv_istore (lv' := [(4, .int 0), (0, .ref (L 0)), (1, .int (nI sn)), (2, .int b), (3, .int (nI nq))]) hx hb dX13_sheet_81 hl (by decide) rfl (fun ls hl => ?_)
              have lp83 : ∀ (fuel : Nat) (i : Nat), (i ≤ 40) → 40 - i < fuel → ∀ (v4 : Int32), v4 = nI i → ∀ (xc83 : mst), xc83 = yrow (yr (yr x 3 sn b) 4 sn (if b = 0 then 0 else nI nq)) 5 (itr (clS sn) (x.2.1 5) i) → ∀ (H : Heap) (locs : List Loc), hw D (cfM D L xc83) A H → va_S A s.heap H locs → ∀ (ls : Array Slot), lv_has ls 5 [(0, .ref (L 0)), (1, .int (nI sn)), (2, .int b), (3, .int (nI nq)), (4, .int v4)] → W p l e ({ frames := 2, cells := 0, slots := 0, locals := 45 } : Room) s m ([.ref (L 0), .int (nI sn), .int b, .int (nI nq)] : List Value).toArray below meth c H locs 0 0 (MQ below (nQ D (cfM D L (aMS x (nI sn) b (nI nq) (a_sheet (nI sn) b (nI nq)))) A (some (.int (aS (a_sheet (nI sn) b (nI nq)))))) ([.ref (L 0), .int (nI sn), .int b, .int (nI nq)] : List Value).toArray s 0 0 A) (F0 m 83 ls []) := by
                intro fuel
                induction fuel with
                | zero => intro i hi hf; exact absurd hf (Nat.not_lt_zero _)
                | succ fuel ih83 =>
                  intro i hi hf83 v4 e4  xc83 exc83 H locs hI hS ls hl
                  subst e4
                  refine lv_iload hx hb dX13_sheet_83 (lv_at hl 4 rfl) ?_
                  refine lv_bipush (v := 40) hx hb dX13_sheet_85 (by decide) ?_
                  refine lv_icmp_ge (tgt := 109) hx hb dX13_sheet_87 (by decide) (fun c_87 => ?_) (fun c_87 => ?_)
                  · skip
                    have c_87 : 40 ≤ i := (nle (a := 40) (b := i) (rfl) (rfl) (by omega) (by omega)).mp c_87
                    refine lv_aload_n hx hb dX13_sheet_109 rfl (lv_at hl 0 rfl) ?_
                    refine r_get (C := RX13) (T := TX13) (N := 18) hx hb hts in_X13 hown hK hI (mf_main) rfl 15 (by decide) (hts _ q1179) (fun _ h => h) rfl dX13_sheet_110 ?_
                    refine lv_iload_n hx hb dX13_sheet_113 rfl (lv_at hl 1 rfl) ?_
                    refine n_iald (k := sn) hx hb hK hI (mf_size) (rfl) (by omega) (by decide) dX13_sheet_114 ?_
                    exact W.iret hx hb hr (fun t ht _ => ⟨rI (by rw [hA, exc83]; first | (rw [if_pos c_71, sh_4, if_pos c_71]; rfl) | (rw [if_neg c_71, sh_4, if_neg c_71]; rfl)), by rw [ht]; exact hw_eq hI (congrArg (cfM D L) (by rw [hA, exc83, show i = 40 by omega]; first | (rw [if_pos c_71, if_pos c_71, aMS, nI_clamp (by omega)]; rfl) | (rw [if_neg c_71, if_neg c_71, aMS, nI_clamp (by omega)]; rfl))), hS.F ht⟩) hS.2.2 dX13_sheet_115
                  · skip
                    have c_87 : ¬ 40 ≤ i := fun z => c_87 ((nle (a := 40) (b := i) (rfl) (rfl) (by omega) (by omega)).mpr z)
                    refine lv_aload_n hx hb dX13_sheet_90 rfl (lv_at hl 0 rfl) ?_
                    refine r_get (C := RX13) (T := TX13) (N := 18) hx hb hts in_X13 hown hK hI (mf_main) rfl 16 (by decide) (hts _ q1180) (fun _ h => h) rfl dX13_sheet_91 ?_
                    refine lv_bipush (v := 40) hx hb dX13_sheet_94 (by decide) ?_
                    refine lv_iload_n hx hb dX13_sheet_96 rfl (lv_at hl 1 rfl) ?_
                    refine lv_imul hx hb dX13_sheet_97 ?_
                    refine lv_iload hx hb dX13_sheet_98 (lv_at hl 4 rfl) ?_
                    refine lv_iadd hx hb dX13_sheet_100 ?_
                    refine lv_iconst (v := 0) hx hb dX13_sheet_101 (by decide) ?_
                    obtain ⟨x13, ex13⟩ : ∃ z, z = yr xc83 5 ((40 * sn) + i) 0 := ⟨_, rfl⟩
                    refine n_iast (cf' := cfM D L x13) (k := ((40 * sn) + i)) hx hb hK hI hS (mf_num) (na_add (na_mul (rfl) (rfl)) (rfl)) (by omega) (by decide) (by rw [ex13]; exact ms_r (r := 5) (by decide) (by decide) mf_num) dX13_sheet_102 (fun H1 locs1 hI hS => ?_)
                    refine lv_iinc (v := (nI (i + 1))) (lv' := [(4, .int (nI (i + 1))), (0, .ref (L 0)), (1, .int (nI sn)), (2, .int b), (3, .int (nI nq))]) hx hb dX13_sheet_103 hl (k := 4) rfl (nI_1 _) (by decide) rfl (fun ls hl => ?_)
                    refine lv_goto (tgt := 83) hx hb dX13_sheet_106 (by decide) ?_
                    exact ih83 (i + 1) (by omega) (by omega) (nI (i + 1)) (rfl) x13 (by rw [ex13, exc83, yr_row]; rfl) _ _ hI hS ls (lv_sub hl [1, 2, 3, 4, 0] rfl)
              exact lp83 (_ + 1) (0) (Nat.zero_le _) (Nat.lt_succ_self _) 0 (rfl) x12 (by rw [ex12, ex9]; (first | rw [if_pos c_71] | rw [if_neg c_71]); exact (yrow_self (yr (yr x 3 sn b) 4 sn _) 5).symm) _ _ hI hS ls (lv_sub hl [1, 2, 3, 4, 0] rfl)
          · skip
            have c_49 := Int32.not_le.mp c_49
            refine lv_aload_n hx hb dX13_sheet_52 rfl (lv_at hl 0 rfl) ?_
            refine lv_iconst (v := 0) hx hb dX13_sheet_53 (by decide) ?_
            refine c_m (k_V (As := [.int 0]) (rest := []) F (k_X13_finds x 0 (by decide)) (cwV 1 hts (lw_V q1238 q1240 qs47 q107 q1241) rfl rfl rfl (by decide +kernel) ⟨Nat.le_of_ble_eq_true rfl, Nat.le_of_ble_eq_true rfl⟩) hI hK (hw.recv hI hK (mf_main) rfl) rfl hl.1 rfl (Nat.le_of_ble_eq_true rfl) dX13_sheet_54 ⟨Nat.le_of_ble_eq_true rfl, Nat.le_of_ble_eq_true rfl⟩) hS (fun H1 locs1 hI hS => ?_)
            obtain ⟨x14, ex14⟩ : ∃ z, z = (fndM x 0) := ⟨_, rfl⟩
            rw [← ex14] at hI
            exact W.iret hx hb hr (fun t ht _ => ⟨rI (by rw [a_sheet, if_neg c_4, if_pos (by simp [c_4, c_8, c_14, c_36, c_49]), if_neg c_36, if_pos c_49]; rfl), by rw [ht]; exact hw_eq hI (congrArg (cfM D L) (by rw [a_sheet, ex14, if_neg c_4, if_pos (by simp [c_4, c_8, c_14, c_36, c_49]), if_neg c_36, if_pos c_49]; rfl)), hS.F ht⟩) hS.2.2 dX13_sheet_57
        · skip
          have c_36 := Int32.not_le.mp c_36
          refine lv_aload_n hx hb dX13_sheet_39 rfl (lv_at hl 0 rfl) ?_
          refine lv_bipush (v := 6) hx hb dX13_sheet_40 (by decide) ?_
          refine c_m (k_V (As := [.int 6]) (rest := []) F (k_X13_finds x 6 (by decide)) (cwV 1 hts (lw_V q1238 q1240 qs47 q107 q1241) rfl rfl rfl (by decide +kernel) ⟨Nat.le_of_ble_eq_true rfl, Nat.le_of_ble_eq_true rfl⟩) hI hK (hw.recv hI hK (mf_main) rfl) rfl hl.1 rfl (Nat.le_of_ble_eq_true rfl) dX13_sheet_42 ⟨Nat.le_of_ble_eq_true rfl, Nat.le_of_ble_eq_true rfl⟩) hS (fun H1 locs1 hI hS => ?_)
          obtain ⟨x15, ex15⟩ : ∃ z, z = (fndM x 6) := ⟨_, rfl⟩
          rw [← ex15] at hI
          exact W.iret hx hb hr (fun t ht _ => ⟨rI (by rw [a_sheet, if_neg c_4, if_pos (by simp [c_4, c_8, c_14, c_36]), if_pos (Int32.not_le.mp (fun z => absurd z (Int32.not_le.mpr c_36)))]; rfl), by rw [ht]; exact hw_eq hI (congrArg (cfM D L) (by rw [a_sheet, ex15, if_neg c_4, if_pos (by simp [c_4, c_8, c_14, c_36]), if_pos c_36]; rfl)), hS.F ht⟩) hS.2.2 dX13_sheet_45
      · skip
        refine lv_iload_n hx hb dX13_sheet_17 rfl (lv_at hl 2 rfl) ?_
        refine lv_bipush (v := 16) hx hb dX13_sheet_18 (by decide) ?_
        refine lv_icmp_eq (tgt := 35) hx hb dX13_sheet_20 (by decide) (fun c_20 => ?_) (fun c_20 => ?_)
        · skip
          refine lv_iload_n hx hb dX13_sheet_35 rfl (lv_at hl 3 rfl) ?_
          refine lv_if_ge (tgt := 46) hx hb dX13_sheet_36 (by decide) (fun c_36 => ?_) (fun c_36 => ?_)
          · skip
            have c_36 := Int32.not_lt.mpr c_36
            refine lv_iload_n hx hb dX13_sheet_46 rfl (lv_at hl 3 rfl) ?_
            refine lv_bipush (v := 40) hx hb dX13_sheet_47 (by decide) ?_
            refine lv_icmp_le (tgt := 58) hx hb dX13_sheet_49 (by decide) (fun c_49 => ?_) (fun c_49 => ?_)
            · skip
              have c_49 := Int32.not_lt.mpr c_49
              obtain ⟨sn, hs, es0⟩ := inI_to (b := 3) rfl (by decide) c_4
              have hs : sn < 4 := by omega
              have hbb : b = 0 ∨ b = 8 ∨ b = 16 ∨ b = 32 := by simp [c_4, c_8, c_14, c_20, c_36, c_49]
              obtain ⟨nq, hnq, en⟩ := nI_of2 (M := 40) (n := 40) rfl c_36 (Int32.not_lt.mp c_49)
              have hA : a_sheet s0 b n = if b = 0 then .inr (0, none) else .inr (n, some (if b = 8 then 0 else if b = 16 then 1 else 2, n.toNatClampNeg, fun _ => 0)) := by rw [a_sheet, if_neg c_4, if_pos hbb, if_neg c_36, if_neg c_49]
              subst es0
              subst en
              refine lv_aload_n hx hb dX13_sheet_58 rfl (lv_at hl 0 rfl) ?_
              refine r_get (C := RX13) (T := TX13) (N := 18) hx hb hts in_X13 hown hK hI (mf_main) rfl 14 (by decide) (hts _ q1178) (fun _ h => h) rfl dX13_sheet_59 ?_
              refine lv_iload_n hx hb dX13_sheet_62 rfl (lv_at hl 1 rfl) ?_
              refine lv_iload_n hx hb dX13_sheet_63 rfl (lv_at hl 2 rfl) ?_
              obtain ⟨x16, ex16⟩ : ∃ z, z = yr x 3 sn b := ⟨_, rfl⟩
              refine n_iast (cf' := cfM D L x16) (k := sn) hx hb hK hI hS (mf_bits) (rfl) (by omega) (by decide) (by rw [ex16]; exact ms_r (r := 3) (by decide) (by decide) mf_bits) dX13_sheet_64 (fun H1 locs1 hI hS => ?_)
              refine lv_aload_n hx hb dX13_sheet_65 rfl (lv_at hl 0 rfl) ?_
              refine r_get (C := RX13) (T := TX13) (N := 18) hx hb hts in_X13 hown hK hI (mf_main) rfl 15 (by decide) (hts _ q1179) (fun _ h => h) rfl dX13_sheet_66 ?_
              refine lv_iload_n hx hb dX13_sheet_69 rfl (lv_at hl 1 rfl) ?_
              refine lv_iload_n hx hb dX13_sheet_70 rfl (lv_at hl 2 rfl) ?_
              refine lv_if_ne (tgt := 78) hx hb dX13_sheet_71 (by decide) (fun c_71 => ?_) (fun c_71 => ?_)
              · skip
                refine lv_iload_n hx hb dX13_sheet_78 rfl (lv_at hl 3 rfl) ?_
                obtain ⟨x17, ex17⟩ : ∃ z, z = yr x16 4 sn (nI nq) := ⟨_, rfl⟩
                refine n_iast (cf' := cfM D L x17) (k := sn) hx hb hK hI hS (mf_size) (rfl) (by omega) (by decide) (by rw [ex17]; exact ms_r (r := 4) (by decide) (by decide) mf_size) dX13_sheet_79 (fun H1 locs1 hI hS => ?_)
                refine lv_iconst (v := 0) hx hb dX13_sheet_80 (by decide) ?_
                refine lv_istore (lv' := [(4, .int 0), (0, .ref (L 0)), (1, .int (nI sn)), (2, .int b), (3, .int (nI nq))]) hx hb dX13_sheet_81 hl (by decide) rfl (fun ls hl => ?_)
                have lp83 : ∀ (fuel : Nat) (i : Nat), (i ≤ 40) → 40 - i < fuel → ∀ (v4 : Int32), v4 = nI i → ∀ (xc83 : mst), xc83 = yrow (yr (yr x 3 sn b) 4 sn (if b = 0 then 0 else nI nq)) 5 (itr (clS sn) (x.2.1 5) i) → ∀ (H : Heap) (locs : List Loc), hw D (cfM D L xc83) A H → va_S A s.heap H locs → ∀ (ls : Array Slot), lv_has ls 5 [(0, .ref (L 0)), (1, .int (nI sn)), (2, .int b), (3, .int (nI nq)), (4, .int v4)] → W p l e ({ frames := 2, cells := 0, slots := 0, locals := 45 } : Room) s m ([.ref (L 0), .int (nI sn), .int b, .int (nI nq)] : List Value).toArray below meth c H locs 0 0 (MQ below (nQ D (cfM D L (aMS x (nI sn) b (nI nq) (a_sheet (nI sn) b (nI nq)))) A (some (.int (aS (a_sheet (nI sn) b (nI nq)))))) ([.ref (L 0), .int (nI sn), .int b, .int (nI nq)] : List Value).toArray s 0 0 A) (F0 m 83 ls []) := by
                  intro fuel
                  induction fuel with
                  | zero => intro i hi hf; exact absurd hf (Nat.not_lt_zero _)
                  | succ fuel ih83 =>
                    intro i hi hf83 v4 e4  xc83 exc83 H locs hI hS ls hl
                    subst e4
                    refine lv_iload hx hb dX13_sheet_83 (lv_at hl 4 rfl) ?_
                    refine lv_bipush (v := 40) hx hb dX13_sheet_85 (by decide) ?_
                    refine lv_icmp_ge (tgt := 109) hx hb dX13_sheet_87 (by decide) (fun c_87 => ?_) (fun c_87 => ?_)
                    · skip
                      have c_87 : 40 ≤ i := (nle (a := 40) (b := i) (rfl) (rfl) (by omega) (by omega)).mp c_87
                      refine lv_aload_n hx hb dX13_sheet_109 rfl (lv_at hl 0 rfl) ?_
                      refine r_get (C := RX13) (T := TX13) (N := 18) hx hb hts in_X13 hown hK hI (mf_main) rfl 15 (by decide) (hts _ q1179) (fun _ h => h) rfl dX13_sheet_110 ?_
                      refine lv_iload_n hx hb dX13_sheet_113 rfl (lv_at hl 1 rfl) ?_
                      refine n_iald (k := sn) hx hb hK hI (mf_size) (rfl) (by omega) (by decide) dX13_sheet_114 ?_
                      exact W.iret hx hb hr (fun t ht _ => ⟨rI (by rw [hA, exc83]; first | (rw [if_pos c_71, sh_4, if_pos c_71]; rfl) | (rw [if_neg c_71, sh_4, if_neg c_71]; rfl)), by rw [ht]; exact hw_eq hI (congrArg (cfM D L) (by rw [hA, exc83, show i = 40 by omega]; first | (rw [if_pos c_71, if_pos c_71, aMS, nI_clamp (by omega)]; rfl) | (rw [if_neg c_71, if_neg c_71, aMS, nI_clamp (by omega)]; rfl))), hS.F ht⟩) hS.2.2 dX13_sheet_115
                    · skip
                      have c_87 : ¬ 40 ≤ i := fun z => c_87 ((nle (a := 40) (b := i) (rfl) (rfl) (by omega) (by omega)).mpr z)
                      refine lv_aload_n hx hb dX13_sheet_90 rfl (lv_at hl 0 rfl) ?_
                      refine r_get (C := RX13) (T := TX13) (N := 18) hx hb hts in_X13 hown hK hI (mf_main) rfl 16 (by decide) (hts _ q1180) (fun _ h => h) rfl dX13_sheet_91 ?_
                      refine lv_bipush (v := 40) hx hb dX13_sheet_94 (by decide) ?_
                      refine lv_iload_n hx hb dX13_sheet_96 rfl (lv_at hl 1 rfl) ?_
                      refine lv_imul hx hb dX13_sheet_97 ?_
                      refine lv_iload hx hb dX13_sheet_98 (lv_at hl 4 rfl) ?_
                      refine lv_iadd hx hb dX13_sheet_100 ?_
                      refine lv_iconst (v := 0) hx hb dX13_sheet_101 (by decide) ?_
                      obtain ⟨x18, ex18⟩ : ∃ z, z = yr xc83 5 ((40 * sn) + i) 0 := ⟨_, rfl⟩
                      refine n_iast (cf' := cfM D L x18) (k := ((40 * sn) + i)) hx hb hK hI hS (mf_num) (na_add (na_mul (rfl) (rfl)) (rfl)) (by omega) (by decide) (by rw [ex18]; exact ms_r (r := 5) (by decide) (by decide) mf_num) dX13_sheet_102 (fun H1 locs1 hI hS => ?_)
                      refine lv_iinc (v := (nI (i + 1))) (lv' := [(4, .int (nI (i + 1))), (0, .ref (L 0)), (1, .int (nI sn)), (2, .int b), (3, .int (nI nq))]) hx hb dX13_sheet_103 hl (k := 4) rfl (nI_1 _) (by decide) rfl (fun ls hl => ?_)
                      refine lv_goto (tgt := 83) hx hb dX13_sheet_106 (by decide) ?_
                      exact ih83 (i + 1) (by omega) (by omega) (nI (i + 1)) (rfl) x18 (by rw [ex18, exc83, yr_row]; rfl) _ _ hI hS ls (lv_sub hl [1, 2, 3, 4, 0] rfl)
                exact lp83 (_ + 1) (0) (Nat.zero_le _) (Nat.lt_succ_self _) 0 (rfl) x17 (by rw [ex17, ex16]; (first | rw [if_pos c_71] | rw [if_neg c_71]); exact (yrow_self (yr (yr x 3 sn b) 4 sn _) 5).symm) _ _ hI hS ls (lv_sub hl [1, 2, 3, 4, 0] rfl)
              · skip
                refine lv_iconst (v := 0) hx hb dX13_sheet_74 (by decide) ?_
                refine lv_goto (tgt := 79) hx hb dX13_sheet_75 (by decide) ?_
                obtain ⟨x19, ex19⟩ : ∃ z, z = yr x16 4 sn 0 := ⟨_, rfl⟩
                refine n_iast (cf' := cfM D L x19) (k := sn) hx hb hK hI hS (mf_size) (rfl) (by omega) (by decide) (by rw [ex19]; exact ms_r (r := 4) (by decide) (by decide) mf_size) dX13_sheet_79 (fun H1 locs1 hI hS => ?_)
                refine lv_iconst (v := 0) hx hb dX13_sheet_80 (by decide) ?_
                refine lv_istore (lv' := [(4, .int 0), (0, .ref (L 0)), (1, .int (nI sn)), (2, .int b), (3, .int (nI nq))]) hx hb dX13_sheet_81 hl (by decide) rfl (fun ls hl => ?_)
                have lp83 : ∀ (fuel : Nat) (i : Nat), (i ≤ 40) → 40 - i < fuel → ∀ (v4 : Int32), v4 = nI i → ∀ (xc83 : mst), xc83 = yrow (yr (yr x 3 sn b) 4 sn (if b = 0 then 0 else nI nq)) 5 (itr (clS sn) (x.2.1 5) i) → ∀ (H : Heap) (locs : List Loc), hw D (cfM D L xc83) A H → va_S A s.heap H locs → ∀ (ls : Array Slot), lv_has ls 5 [(0, .ref (L 0)), (1, .int (nI sn)), (2, .int b), (3, .int (nI nq)), (4, .int v4)] → W p l e ({ frames := 2, cells := 0, slots := 0, locals := 45 } : Room) s m ([.ref (L 0), .int (nI sn), .int b, .int (nI nq)] : List Value).toArray below meth c H locs 0 0 (MQ below (nQ D (cfM D L (aMS x (nI sn) b (nI nq) (a_sheet (nI sn) b (nI nq)))) A (some (.int (aS (a_sheet (nI sn) b (nI nq)))))) ([.ref (L 0), .int (nI sn), .int b, .int (nI nq)] : List Value).toArray s 0 0 A) (F0 m 83 ls []) := by
                  intro fuel
                  induction fuel with
                  | zero => intro i hi hf; exact absurd hf (Nat.not_lt_zero _)
                  | succ fuel ih83 =>
                    intro i hi hf83 v4 e4  xc83 exc83 H locs hI hS ls hl
                    subst e4
                    refine lv_iload hx hb dX13_sheet_83 (lv_at hl 4 rfl) ?_
                    refine lv_bipush (v := 40) hx hb dX13_sheet_85 (by decide) ?_
                    refine lv_icmp_ge (tgt := 109) hx hb dX13_sheet_87 (by decide) (fun c_87 => ?_) (fun c_87 => ?_)
                    · skip
                      have c_87 : 40 ≤ i := (nle (a := 40) (b := i) (rfl) (rfl) (by omega) (by omega)).mp c_87
                      refine lv_aload_n hx hb dX13_sheet_109 rfl (lv_at hl 0 rfl) ?_
                      refine r_get (C := RX13) (T := TX13) (N := 18) hx hb hts in_X13 hown hK hI (mf_main) rfl 15 (by decide) (hts _ q1179) (fun _ h => h) rfl dX13_sheet_110 ?_
                      refine lv_iload_n hx hb dX13_sheet_113 rfl (lv_at hl 1 rfl) ?_
                      refine n_iald (k := sn) hx hb hK hI (mf_size) (rfl) (by omega) (by decide) dX13_sheet_114 ?_
                      exact W.iret hx hb hr (fun t ht _ => ⟨rI (by rw [hA, exc83]; first | (rw [if_pos c_71, sh_4, if_pos c_71]; rfl) | (rw [if_neg c_71, sh_4, if_neg c_71]; rfl)), by rw [ht]; exact hw_eq hI (congrArg (cfM D L) (by rw [hA, exc83, show i = 40 by omega]; first | (rw [if_pos c_71, if_pos c_71, aMS, nI_clamp (by omega)]; rfl) | (rw [if_neg c_71, if_neg c_71, aMS, nI_clamp (by omega)]; rfl))), hS.F ht⟩) hS.2.2 dX13_sheet_115
                    · skip
                      have c_87 : ¬ 40 ≤ i := fun z => c_87 ((nle (a := 40) (b := i) (rfl) (rfl) (by omega) (by omega)).mpr z)
                      refine lv_aload_n hx hb dX13_sheet_90 rfl (lv_at hl 0 rfl) ?_
                      refine r_get (C := RX13) (T := TX13) (N := 18) hx hb hts in_X13 hown hK hI (mf_main) rfl 16 (by decide) (hts _ q1180) (fun _ h => h) rfl dX13_sheet_91 ?_
                      refine lv_bipush (v := 40) hx hb dX13_sheet_94 (by decide) ?_
                      refine lv_iload_n hx hb dX13_sheet_96 rfl (lv_at hl 1 rfl) ?_
                      refine lv_imul hx hb dX13_sheet_97 ?_
                      refine lv_iload hx hb dX13_sheet_98 (lv_at hl 4 rfl) ?_
                      refine lv_iadd hx hb dX13_sheet_100 ?_
                      refine lv_iconst (v := 0) hx hb dX13_sheet_101 (by decide) ?_
                      obtain ⟨x20, ex20⟩ : ∃ z, z = yr xc83 5 ((40 * sn) + i) 0 := ⟨_, rfl⟩
                      refine n_iast (cf' := cfM D L x20) (k := ((40 * sn) + i)) hx hb hK hI hS (mf_num) (na_add (na_mul (rfl) (rfl)) (rfl)) (by omega) (by decide) (by rw [ex20]; exact ms_r (r := 5) (by decide) (by decide) mf_num) dX13_sheet_102 (fun H1 locs1 hI hS => ?_)
                      refine lv_iinc (v := (nI (i + 1))) (lv' := [(4, .int (nI (i + 1))), (0, .ref (L 0)), (1, .int (nI sn)), (2, .int b), (3, .int (nI nq))]) hx hb dX13_sheet_103 hl (k := 4) rfl (nI_1 _) (by decide) rfl (fun ls hl => ?_)
                      refine lv_goto (tgt := 83) hx hb dX13_sheet_106 (by decide) ?_
                      exact ih83 (i + 1) (by omega) (by omega) (nI (i + 1)) (rfl) x20 (by rw [ex20, exc83, yr_row]; rfl) _ _ hI hS ls (lv_sub hl [1, 2, 3, 4, 0] rfl)
                exact lp83 (_ + 1) (0) (Nat.zero_le _) (Nat.lt_succ_self _) 0 (rfl) x19 (by rw [ex19, ex16]; (first | rw [if_pos c_71] | rw [if_neg c_71]); exact (yrow_self (yr (yr x 3 sn b) 4 sn _) 5).symm) _ _ hI hS ls (lv_sub hl [1, 2, 3, 4, 0] rfl)
            · skip
              have c_49 := Int32.not_le.mp c_49
              refine lv_aload_n hx hb dX13_sheet_52 rfl (lv_at hl 0 rfl) ?_
              refine lv_iconst (v := 0) hx hb dX13_sheet_53 (by decide) ?_
              refine c_m (k_V (As := [.int 0]) (rest := []) F (k_X13_finds x 0 (by decide)) (cwV 1 hts (lw_V q1238 q1240 qs47 q107 q1241) rfl rfl rfl (by decide +kernel) ⟨Nat.le_of_ble_eq_true rfl, Nat.le_of_ble_eq_true rfl⟩) hI hK (hw.recv hI hK (mf_main) rfl) rfl hl.1 rfl (Nat.le_of_ble_eq_true rfl) dX13_sheet_54 ⟨Nat.le_of_ble_eq_true rfl, Nat.le_of_ble_eq_true rfl⟩) hS (fun H1 locs1 hI hS => ?_)
              obtain ⟨x21, ex21⟩ : ∃ z, z = (fndM x 0) := ⟨_, rfl⟩
              rw [← ex21] at hI
              exact W.iret hx hb hr (fun t ht _ => ⟨rI (by rw [a_sheet, if_neg c_4, if_pos (by simp [c_4, c_8, c_14, c_20, c_36, c_49]), if_neg c_36, if_pos c_49]; rfl), by rw [ht]; exact hw_eq hI (congrArg (cfM D L) (by rw [a_sheet, ex21, if_neg c_4, if_pos (by simp [c_4, c_8, c_14, c_20, c_36, c_49]), if_neg c_36, if_pos c_49]; rfl)), hS.F ht⟩) hS.2.2 dX13_sheet_57
          · skip
            have c_36 := Int32.not_le.mp c_36
            refine lv_aload_n hx hb dX13_sheet_39 rfl (lv_at hl 0 rfl) ?_
            refine lv_bipush (v := 6) hx hb dX13_sheet_40 (by decide) ?_
            refine c_m (k_V (As := [.int 6]) (rest := []) F (k_X13_finds x 6 (by decide)) (cwV 1 hts (lw_V q1238 q1240 qs47 q107 q1241) rfl rfl rfl (by decide +kernel) ⟨Nat.le_of_ble_eq_true rfl, Nat.le_of_ble_eq_true rfl⟩) hI hK (hw.recv hI hK (mf_main) rfl) rfl hl.1 rfl (Nat.le_of_ble_eq_true rfl) dX13_sheet_42 ⟨Nat.le_of_ble_eq_true rfl, Nat.le_of_ble_eq_true rfl⟩) hS (fun H1 locs1 hI hS => ?_)
            obtain ⟨x22, ex22⟩ : ∃ z, z = (fndM x 6) := ⟨_, rfl⟩
            rw [← ex22] at hI
            exact W.iret hx hb hr (fun t ht _ => ⟨rI (by rw [a_sheet, if_neg c_4, if_pos (by simp [c_4, c_8, c_14, c_20, c_36]), if_pos (Int32.not_le.mp (fun z => absurd z (Int32.not_le.mpr c_36)))]; rfl), by rw [ht]; exact hw_eq hI (congrArg (cfM D L) (by rw [a_sheet, ex22, if_neg c_4, if_pos (by simp [c_4, c_8, c_14, c_20, c_36]), if_pos c_36]; rfl)), hS.F ht⟩) hS.2.2 dX13_sheet_45
        · skip
          refine lv_iload_n hx hb dX13_sheet_23 rfl (lv_at hl 2 rfl) ?_
          refine lv_bipush (v := 32) hx hb dX13_sheet_24 (by decide) ?_
          refine lv_icmp_eq (tgt := 35) hx hb dX13_sheet_26 (by decide) (fun c_26 => ?_) (fun c_26 => ?_)
          · skip
            refine lv_iload_n hx hb dX13_sheet_35 rfl (lv_at hl 3 rfl) ?_
            refine lv_if_ge (tgt := 46) hx hb dX13_sheet_36 (by decide) (fun c_36 => ?_) (fun c_36 => ?_)
            · skip
              have c_36 := Int32.not_lt.mpr c_36
              refine lv_iload_n hx hb dX13_sheet_46 rfl (lv_at hl 3 rfl) ?_
              refine lv_bipush (v := 40) hx hb dX13_sheet_47 (by decide) ?_
              refine lv_icmp_le (tgt := 58) hx hb dX13_sheet_49 (by decide) (fun c_49 => ?_) (fun c_49 => ?_)
              · skip
                have c_49 := Int32.not_lt.mpr c_49
                obtain ⟨sn, hs, es0⟩ := inI_to (b := 3) rfl (by decide) c_4
                have hs : sn < 4 := by omega
                have hbb : b = 0 ∨ b = 8 ∨ b = 16 ∨ b = 32 := by simp [c_4, c_8, c_14, c_20, c_26, c_36, c_49]
                obtain ⟨nq, hnq, en⟩ := nI_of2 (M := 40) (n := 40) rfl c_36 (Int32.not_lt.mp c_49)
                have hA : a_sheet s0 b n = if b = 0 then .inr (0, none) else .inr (n, some (if b = 8 then 0 else if b = 16 then 1 else 2, n.toNatClampNeg, fun _ => 0)) := by rw [a_sheet, if_neg c_4, if_pos hbb, if_neg c_36, if_neg c_49]
                subst es0
                subst en
                refine lv_aload_n hx hb dX13_sheet_58 rfl (lv_at hl 0 rfl) ?_
                refine r_get (C := RX13) (T := TX13) (N := 18) hx hb hts in_X13 hown hK hI (mf_main) rfl 14 (by decide) (hts _ q1178) (fun _ h => h) rfl dX13_sheet_59 ?_
                refine lv_iload_n hx hb dX13_sheet_62 rfl (lv_at hl 1 rfl) ?_
                refine lv_iload_n hx hb dX13_sheet_63 rfl (lv_at hl 2 rfl) ?_
                obtain ⟨x23, ex23⟩ : ∃ z, z = yr x 3 sn b := ⟨_, rfl⟩
                refine n_iast (cf' := cfM D L x23) (k := sn) hx hb hK hI hS (mf_bits) (rfl) (by omega) (by decide) (by rw [ex23]; exact ms_r (r := 3) (by decide) (by decide) mf_bits) dX13_sheet_64 (fun H1 locs1 hI hS => ?_)
                refine lv_aload_n hx hb dX13_sheet_65 rfl (lv_at hl 0 rfl) ?_
                refine r_get (C := RX13) (T := TX13) (N := 18) hx hb hts in_X13 hown hK hI (mf_main) rfl 15 (by decide) (hts _ q1179) (fun _ h => h) rfl dX13_sheet_66 ?_
                refine lv_iload_n hx hb dX13_sheet_69 rfl (lv_at hl 1 rfl) ?_
                refine lv_iload_n hx hb dX13_sheet_70 rfl (lv_at hl 2 rfl) ?_
                refine lv_if_ne (tgt := 78) hx hb dX13_sheet_71 (by decide) (fun c_71 => ?_) (fun c_71 => ?_)
                · skip
                  refine lv_iload_n hx hb dX13_sheet_78 rfl (lv_at hl 3 rfl) ?_
                  obtain ⟨x24, ex24⟩ : ∃ z, z = yr x23 4 sn (nI nq) := ⟨_, rfl⟩
                  refine n_iast (cf' := cfM D L x24) (k := sn) hx hb hK hI hS (mf_size) (rfl) (by omega) (by decide) (by rw [ex24]; exact ms_r (r := 4) (by decide) (by decide) mf_size) dX13_sheet_79 (fun H1 locs1 hI hS => ?_)
                  refine lv_iconst (v := 0) hx hb dX13_sheet_80 (by decide) ?_
                  refine lv_istore (lv' := [(4, .int 0), (0, .ref (L 0)), (1, .int (nI sn)), (2, .int b), (3, .int (nI nq))]) hx hb dX13_sheet_81 hl (by decide) rfl (fun ls hl => ?_)
                  have lp83 : ∀ (fuel : Nat) (i : Nat), (i ≤ 40) → 40 - i < fuel → ∀ (v4 : Int32), v4 = nI i → ∀ (xc83 : mst), xc83 = yrow (yr (yr x 3 sn b) 4 sn (if b = 0 then 0 else nI nq)) 5 (itr (clS sn) (x.2.1 5) i) → ∀ (H : Heap) (locs : List Loc), hw D (cfM D L xc83) A H → va_S A s.heap H locs → ∀ (ls : Array Slot), lv_has ls 5 [(0, .ref (L 0)), (1, .int (nI sn)), (2, .int b), (3, .int (nI nq)), (4, .int v4)] → W p l e ({ frames := 2, cells := 0, slots := 0, locals := 45 } : Room) s m ([.ref (L 0), .int (nI sn), .int b, .int (nI nq)] : List Value).toArray below meth c H locs 0 0 (MQ below (nQ D (cfM D L (aMS x (nI sn) b (nI nq) (a_sheet (nI sn) b (nI nq)))) A (some (.int (aS (a_sheet (nI sn) b (nI nq)))))) ([.ref (L 0), .int (nI sn), .int b, .int (nI nq)] : List Value).toArray s 0 0 A) (F0 m 83 ls []) := by
                    intro fuel
                    induction fuel with
                    | zero => intro i hi hf; exact absurd hf (Nat.not_lt_zero _)
                    | succ fuel ih83 =>
                      intro i hi hf83 v4 e4  xc83 exc83 H locs hI hS ls hl
                      subst e4
                      refine lv_iload hx hb dX13_sheet_83 (lv_at hl 4 rfl) ?_
                      refine lv_bipush (v := 40) hx hb dX13_sheet_85 (by decide) ?_
                      refine lv_icmp_ge (tgt := 109) hx hb dX13_sheet_87 (by decide) (fun c_87 => ?_) (fun c_87 => ?_)
                      · skip
                        have c_87 : 40 ≤ i := (nle (a := 40) (b := i) (rfl) (rfl) (by omega) (by omega)).mp c_87
                        refine lv_aload_n hx hb dX13_sheet_109 rfl (lv_at hl 0 rfl) ?_
                        refine r_get (C := RX13) (T := TX13) (N := 18) hx hb hts in_X13 hown hK hI (mf_main) rfl 15 (by decide) (hts _ q1179) (fun _ h => h) rfl dX13_sheet_110 ?_
                        refine lv_iload_n hx hb dX13_sheet_113 rfl (lv_at hl 1 rfl) ?_
                        refine n_iald (k := sn) hx hb hK hI (mf_size) (rfl) (by omega) (by decide) dX13_sheet_114 ?_
                        exact W.iret hx hb hr (fun t ht _ => ⟨rI (by rw [hA, exc83]; first | (rw [if_pos c_71, sh_4, if_pos c_71]; rfl) | (rw [if_neg c_71, sh_4, if_neg c_71]; rfl)), by rw [ht]; exact hw_eq hI (congrArg (cfM D L) (by rw [hA, exc83, show i = 40 by omega]; first | (rw [if_pos c_71, if_pos c_71, aMS, nI_clamp (by omega)]; rfl) | (rw [if_neg c_71, if_neg c_71, aMS, nI_clamp (by omega)]; rfl))), hS.F ht⟩) hS.2.2 dX13_sheet_115
                      · skip
                        have c_87 : ¬ 40 ≤ i := fun z => c_87 ((nle (a := 40) (b := i) (rfl) (rfl) (by omega) (by omega)).mpr z)
                        refine lv_aload_n hx hb dX13_sheet_90 rfl (lv_at hl 0 rfl) ?_
                        refine r_get (C := RX13) (T := TX13) (N := 18) hx hb hts in_X13 hown hK hI (mf_main) rfl 16 (by decide) (hts _ q1180) (fun _ h => h) rfl dX13_sheet_91 ?_
                        refine lv_bipush (v := 40) hx hb dX13_sheet_94 (by decide) ?_
                        refine lv_iload_n hx hb dX13_sheet_96 rfl (lv_at hl 1 rfl) ?_
                        refine lv_imul hx hb dX13_sheet_97 ?_
                        refine lv_iload hx hb dX13_sheet_98 (lv_at hl 4 rfl) ?_
                        refine lv_iadd hx hb dX13_sheet_100 ?_
                        refine lv_iconst (v := 0) hx hb dX13_sheet_101 (by decide) ?_
                        obtain ⟨x25, ex25⟩ : ∃ z, z = yr xc83 5 ((40 * sn) + i) 0 := ⟨_, rfl⟩
                        refine n_iast (cf' := cfM D L x25) (k := ((40 * sn) + i)) hx hb hK hI hS (mf_num) (na_add (na_mul (rfl) (rfl)) (rfl)) (by omega) (by decide) (by rw [ex25]; exact ms_r (r := 5) (by decide) (by decide) mf_num) dX13_sheet_102 (fun H1 locs1 hI hS => ?_)
                        refine lv_iinc (v := (nI (i + 1))) (lv' := [(4, .int (nI (i + 1))), (0, .ref (L 0)), (1, .int (nI sn)), (2, .int b), (3, .int (nI nq))]) hx hb dX13_sheet_103 hl (k := 4) rfl (nI_1 _) (by decide) rfl (fun ls hl => ?_)
                        refine lv_goto (tgt := 83) hx hb dX13_sheet_106 (by decide) ?_
                        exact ih83 (i + 1) (by omega) (by omega) (nI (i + 1)) (rfl) x25 (by rw [ex25, exc83, yr_row]; rfl) _ _ hI hS ls (lv_sub hl [1, 2, 3, 4, 0] rfl)
                  exact lp83 (_ + 1) (0) (Nat.zero_le _) (Nat.lt_succ_self _) 0 (rfl) x24 (by rw [ex24, ex23]; (first | rw [if_pos c_71] | rw [if_neg c_71]); exact (yrow_self (yr (yr x 3 sn b) 4 sn _) 5).symm) _ _ hI hS ls (lv_sub hl [1, 2, 3, 4, 0] rfl)
                · skip
                  refine lv_iconst (v := 0) hx hb dX13_sheet_74 (by decide) ?_
                  refine lv_goto (tgt := 79) hx hb dX13_sheet_75 (by decide) ?_
                  obtain ⟨x26, ex26⟩ : ∃ z, z = yr x23 4 sn 0 := ⟨_, rfl⟩
                  refine n_iast (cf' := cfM D L x26) (k := sn) hx hb hK hI hS (mf_size) (rfl) (by omega) (by decide) (by rw [ex26]; exact ms_r (r := 4) (by decide) (by decide) mf_size) dX13_sheet_79 (fun H1 locs1 hI hS => ?_)
                  refine lv_iconst (v := 0) hx hb dX13_sheet_80 (by decide) ?_
                  refine lv_istore (lv' := [(4, .int 0), (0, .ref (L 0)), (1, .int (nI sn)), (2, .int b), (3, .int (nI nq))]) hx hb dX13_sheet_81 hl (by decide) rfl (fun ls hl => ?_)
                  have lp83 : ∀ (fuel : Nat) (i : Nat), (i ≤ 40) → 40 - i < fuel → ∀ (v4 : Int32), v4 = nI i → ∀ (xc83 : mst), xc83 = yrow (yr (yr x 3 sn b) 4 sn (if b = 0 then 0 else nI nq)) 5 (itr (clS sn) (x.2.1 5) i) → ∀ (H : Heap) (locs : List Loc), hw D (cfM D L xc83) A H → va_S A s.heap H locs → ∀ (ls : Array Slot), lv_has ls 5 [(0, .ref (L 0)), (1, .int (nI sn)), (2, .int b), (3, .int (nI nq)), (4, .int v4)] → W p l e ({ frames := 2, cells := 0, slots := 0, locals := 45 } : Room) s m ([.ref (L 0), .int (nI sn), .int b, .int (nI nq)] : List Value).toArray below meth c H locs 0 0 (MQ below (nQ D (cfM D L (aMS x (nI sn) b (nI nq) (a_sheet (nI sn) b (nI nq)))) A (some (.int (aS (a_sheet (nI sn) b (nI nq)))))) ([.ref (L 0), .int (nI sn), .int b, .int (nI nq)] : List Value).toArray s 0 0 A) (F0 m 83 ls []) := by
                    intro fuel
                    induction fuel with
                    | zero => intro i hi hf; exact absurd hf (Nat.not_lt_zero _)
                    | succ fuel ih83 =>
                      intro i hi hf83 v4 e4  xc83 exc83 H locs hI hS ls hl
                      subst e4
                      refine lv_iload hx hb dX13_sheet_83 (lv_at hl 4 rfl) ?_
                      refine lv_bipush (v := 40) hx hb dX13_sheet_85 (by decide) ?_
                      refine lv_icmp_ge (tgt := 109) hx hb dX13_sheet_87 (by decide) (fun c_87 => ?_) (fun c_87 => ?_)
                      · skip
                        have c_87 : 40 ≤ i := (nle (a := 40) (b := i) (rfl) (rfl) (by omega) (by omega)).mp c_87
                        refine lv_aload_n hx hb dX13_sheet_109 rfl (lv_at hl 0 rfl) ?_
                        refine r_get (C := RX13) (T := TX13) (N := 18) hx hb hts in_X13 hown hK hI (mf_main) rfl 15 (by decide) (hts _ q1179) (fun _ h => h) rfl dX13_sheet_110 ?_
                        refine lv_iload_n hx hb dX13_sheet_113 rfl (lv_at hl 1 rfl) ?_
                        refine n_iald (k := sn) hx hb hK hI (mf_size) (rfl) (by omega) (by decide) dX13_sheet_114 ?_
                        exact W.iret hx hb hr (fun t ht _ => ⟨rI (by rw [hA, exc83]; first | (rw [if_pos c_71, sh_4, if_pos c_71]; rfl) | (rw [if_neg c_71, sh_4, if_neg c_71]; rfl)), by rw [ht]; exact hw_eq hI (congrArg (cfM D L) (by rw [hA, exc83, show i = 40 by omega]; first | (rw [if_pos c_71, if_pos c_71, aMS, nI_clamp (by omega)]; rfl) | (rw [if_neg c_71, if_neg c_71, aMS, nI_clamp (by omega)]; rfl))), hS.F ht⟩) hS.2.2 dX13_sheet_115
                      · skip
                        have c_87 : ¬ 40 ≤ i := fun z => c_87 ((nle (a := 40) (b := i) (rfl) (rfl) (by omega) (by omega)).mpr z)
                        refine lv_aload_n hx hb dX13_sheet_90 rfl (lv_at hl 0 rfl) ?_
                        refine r_get (C := RX13) (T := TX13) (N := 18) hx hb hts in_X13 hown hK hI (mf_main) rfl 16 (by decide) (hts _ q1180) (fun _ h => h) rfl dX13_sheet_91 ?_
                        refine lv_bipush (v := 40) hx hb dX13_sheet_94 (by decide) ?_
                        refine lv_iload_n hx hb dX13_sheet_96 rfl (lv_at hl 1 rfl) ?_
                        refine lv_imul hx hb dX13_sheet_97 ?_
                        refine lv_iload hx hb dX13_sheet_98 (lv_at hl 4 rfl) ?_
                        refine lv_iadd hx hb dX13_sheet_100 ?_
                        refine lv_iconst (v := 0) hx hb dX13_sheet_101 (by decide) ?_
                        obtain ⟨x27, ex27⟩ : ∃ z, z = yr xc83 5 ((40 * sn) + i) 0 := ⟨_, rfl⟩
                        refine n_iast (cf' := cfM D L x27) (k := ((40 * sn) + i)) hx hb hK hI hS (mf_num) (na_add (na_mul (rfl) (rfl)) (rfl)) (by omega) (by decide) (by rw [ex27]; exact ms_r (r := 5) (by decide) (by decide) mf_num) dX13_sheet_102 (fun H1 locs1 hI hS => ?_)
                        refine lv_iinc (v := (nI (i + 1))) (lv' := [(4, .int (nI (i + 1))), (0, .ref (L 0)), (1, .int (nI sn)), (2, .int b), (3, .int (nI nq))]) hx hb dX13_sheet_103 hl (k := 4) rfl (nI_1 _) (by decide) rfl (fun ls hl => ?_)
                        refine lv_goto (tgt := 83) hx hb dX13_sheet_106 (by decide) ?_
                        exact ih83 (i + 1) (by omega) (by omega) (nI (i + 1)) (rfl) x27 (by rw [ex27, exc83, yr_row]; rfl) _ _ hI hS ls (lv_sub hl [1, 2, 3, 4, 0] rfl)
                  exact lp83 (_ + 1) (0) (Nat.zero_le _) (Nat.lt_succ_self _) 0 (rfl) x26 (by rw [ex26, ex23]; (first | rw [if_pos c_71] | rw [if_neg c_71]); exact (yrow_self (yr (yr x 3 sn b) 4 sn _) 5).symm) _ _ hI hS ls (lv_sub hl [1, 2, 3, 4, 0] rfl)
              · skip
                have c_49 := Int32.not_le.mp c_49
                refine lv_aload_n hx hb dX13_sheet_52 rfl (lv_at hl 0 rfl) ?_
                refine lv_iconst (v := 0) hx hb dX13_sheet_53 (by decide) ?_
                refine c_m (k_V (As := [.int 0]) (rest := []) F (k_X13_finds x 0 (by decide)) (cwV 1 hts (lw_V q1238 q1240 qs47 q107 q1241) rfl rfl rfl (by decide +kernel) ⟨Nat.le_of_ble_eq_true rfl, Nat.le_of_ble_eq_true rfl⟩) hI hK (hw.recv hI hK (mf_main) rfl) rfl hl.1 rfl (Nat.le_of_ble_eq_true rfl) dX13_sheet_54 ⟨Nat.le_of_ble_eq_true rfl, Nat.le_of_ble_eq_true rfl⟩) hS (fun H1 locs1 hI hS => ?_)
                obtain ⟨x28, ex28⟩ : ∃ z, z = (fndM x 0) := ⟨_, rfl⟩
                rw [← ex28] at hI
                exact W.iret hx hb hr (fun t ht _ => ⟨rI (by rw [a_sheet, if_neg c_4, if_pos (by simp [c_4, c_8, c_14, c_20, c_26, c_36, c_49]), if_neg c_36, if_pos c_49]; rfl), by rw [ht]; exact hw_eq hI (congrArg (cfM D L) (by rw [a_sheet, ex28, if_neg c_4, if_pos (by simp [c_4, c_8, c_14, c_20, c_26, c_36, c_49]), if_neg c_36, if_pos c_49]; rfl)), hS.F ht⟩) hS.2.2 dX13_sheet_57
            · skip
              have c_36 := Int32.not_le.mp c_36
              refine lv_aload_n hx hb dX13_sheet_39 rfl (lv_at hl 0 rfl) ?_
              refine lv_bipush (v := 6) hx hb dX13_sheet_40 (by decide) ?_
              refine c_m (k_V (As := [.int 6]) (rest := []) F (k_X13_finds x 6 (by decide)) (cwV 1 hts (lw_V q1238 q1240 qs47 q107 q1241) rfl rfl rfl (by decide +kernel) ⟨Nat.le_of_ble_eq_true rfl, Nat.le_of_ble_eq_true rfl⟩) hI hK (hw.recv hI hK (mf_main) rfl) rfl hl.1 rfl (Nat.le_of_ble_eq_true rfl) dX13_sheet_42 ⟨Nat.le_of_ble_eq_true rfl, Nat.le_of_ble_eq_true rfl⟩) hS (fun H1 locs1 hI hS => ?_)
              obtain ⟨x29, ex29⟩ : ∃ z, z = (fndM x 6) := ⟨_, rfl⟩
              rw [← ex29] at hI
              exact W.iret hx hb hr (fun t ht _ => ⟨rI (by rw [a_sheet, if_neg c_4, if_pos (by simp [c_4, c_8, c_14, c_20, c_26, c_36]), if_pos (Int32.not_le.mp (fun z => absurd z (Int32.not_le.mpr c_36)))]; rfl), by rw [ht]; exact hw_eq hI (congrArg (cfM D L) (by rw [a_sheet, ex29, if_neg c_4, if_pos (by simp [c_4, c_8, c_14, c_20, c_26, c_36]), if_pos c_36]; rfl)), hS.F ht⟩) hS.2.2 dX13_sheet_45
          · skip
            refine lv_aload_n hx hb dX13_sheet_29 rfl (lv_at hl 0 rfl) ?_
            refine lv_iconst (v := 0) hx hb dX13_sheet_30 (by decide) ?_
            refine c_m (k_V (As := [.int 0]) (rest := []) F (k_X13_finds x 0 (by decide)) (cwV 1 hts (lw_V q1238 q1240 qs47 q107 q1241) rfl rfl rfl (by decide +kernel) ⟨Nat.le_of_ble_eq_true rfl, Nat.le_of_ble_eq_true rfl⟩) hI hK (hw.recv hI hK (mf_main) rfl) rfl hl.1 rfl (Nat.le_of_ble_eq_true rfl) dX13_sheet_31 ⟨Nat.le_of_ble_eq_true rfl, Nat.le_of_ble_eq_true rfl⟩) hS (fun H1 locs1 hI hS => ?_)
            obtain ⟨x30, ex30⟩ : ∃ z, z = (fndM x 0) := ⟨_, rfl⟩
            rw [← ex30] at hI
            exact W.iret hx hb hr (fun t ht _ => ⟨rI (by rw [a_sheet]; first | (rw [if_pos c_4]; rfl) | (rw [if_neg c_4, if_neg (by simp [c_4, c_8, c_14, c_20, c_26])]; rfl)), by rw [ht]; exact hw_eq hI (congrArg (cfM D L) (by rw [a_sheet, ex30]; first | (rw [if_pos c_4]; rfl) | (rw [if_neg c_4, if_neg (by simp [c_4, c_8, c_14, c_20, c_26])]; rfl))), hS.F ht⟩) hS.2.2 dX13_sheet_34
set_option maxHeartbeats 1000000 in
theorem k_X13_write {l : Launch} {D : va_G} {L : Nat → Nat} {A : Nat → Prop} (x : mst) (hmk : shMk x) (s0 i v : Int32) : Met l yX13_write (ws_ yX13_write cX13_write 5 (some .int)) ({ frames := 3, cells := 0, slots := 0, locals := 66 } : Room) (va_Pc [.ref (L 0), .int s0, .int i, .int v] (pI D (cfM D L x) A)) (nQ D (cfM D L (aMW x (a_write (shMq x) s0 i v))) A (some (.int (aW (fun _ => 1) (a_write (shMq x) s0 i v))))) 0 0 A := by
  refine met_I (by decide) rfl (Nat.le_of_ble_eq_true rfl) ?_
  intro p e s m below meth c ls hx hb hr hml hown hts hlocks hl hI hK
  have F : CallFix p m c cX13_write 5 s _ lw_all RX13 := ⟨hx, hb, hml, hown, hts⟩
  have hl : lv_has ls 5 [(0, .ref (L 0)), (1, .int s0), (2, .int i), (3, .int v)] := hl
  have hS : va_S A s.heap s.heap [] := va_S.rf
  refine lv_aload_n hx hb dX13_write_0 rfl (lv_at hl 0 rfl) ?_
  refine lv_iload_n hx hb dX13_write_1 rfl (lv_at hl 1 rfl) ?_
  rcases hz : shq (shMq x) s0 with kq | z
  · skip
    have hkq : kq < 7 := by rcases shq_l hz with h | h <;> omega
    refine c_r (k_V (As := [.int s0]) (rest := []) F (k_X13_whyNone_l x s0 kq hz) (cwV 1 hts (lw_V q1456 q1458 qs74 q107 q1459) rfl rfl rfl (by decide +kernel) ⟨Nat.le_of_ble_eq_true rfl, Nat.le_of_ble_eq_true rfl⟩) hI hK (hw.recv hI hK (mf_main) rfl) rfl hl.1 rfl (Nat.le_of_ble_eq_true rfl) dX13_write_2 ⟨Nat.le_of_ble_eq_true rfl, Nat.le_of_ble_eq_true rfl⟩) ?_
    refine lv_istore (lv' := [(4, .int (nI kq)), (0, .ref (L 0)), (1, .int s0), (2, .int i), (3, .int v)]) hx hb dX13_write_5 hl (by decide) rfl (fun ls hl => ?_)
    refine lv_iload hx hb dX13_write_7 (lv_at hl 0 rfl) ?_
    refine lv_if_ge (tgt := 34) hx hb dX13_write_9 (by decide) (fun c_9 => ?_) (fun c_9 => ?_)
    · skip
      have c_9 : 0 ≤ kq := (nle (a := 0) (b := kq) (rfl) (rfl) (by omega) (by omega)).mp c_9
      refine lv_iload hx hb dX13_write_34 (lv_at hl 0 rfl) ?_
      refine lv_istore (lv' := [(4, .int (nI kq)), (0, .ref (L 0)), (1, .int s0), (2, .int i), (3, .int v)]) hx hb dX13_write_36 hl (by decide) rfl (fun ls hl => ?_)
      refine lv_iload hx hb dX13_write_38 (lv_at hl 0 rfl) ?_
      refine lv_if_lt (tgt := 50) hx hb dX13_write_40 (by decide) (fun c_40 => ?_) (fun c_40 => ?_)
      · skip
        have c_40 : kq < 0 := (nlt (a := kq) (b := 0) (rfl) (rfl) (by omega) (by omega)).mp c_40
        exact absurd c_40 (Nat.not_lt_zero _)
      · skip
        have c_40 : ¬ kq < 0 := fun z => c_40 ((nlt (a := kq) (b := 0) (rfl) (rfl) (by omega) (by omega)).mpr z)
        refine lv_aload_n hx hb dX13_write_43 rfl (lv_at hl 1 rfl) ?_
        refine lv_iload hx hb dX13_write_44 (lv_at hl 0 rfl) ?_
        refine c_m (k_V (As := [.int (nI kq)]) (rest := []) F (k_X13_finds x kq (by omega)) (cwV 1 hts (lw_V q1238 q1240 qs47 q107 q1241) rfl rfl rfl (by decide +kernel) ⟨Nat.le_of_ble_eq_true rfl, Nat.le_of_ble_eq_true rfl⟩) hI hK (hw.recv hI hK (mf_main) rfl) rfl hl.1 rfl (Nat.le_of_ble_eq_true rfl) dX13_write_46 ⟨Nat.le_of_ble_eq_true rfl, Nat.le_of_ble_eq_true rfl⟩) hS (fun H1 locs1 hI hS => ?_)
        obtain ⟨x1, ex1⟩ : ∃ z, z = (fndM x kq) := ⟨_, rfl⟩
        rw [← ex1] at hI
        exact W.iret hx hb hr (fun t ht _ => ⟨rI (by rw [a_write, hz]; first | rfl | (simp only [if_pos c_27]; rfl)), by rw [ht]; exact hw_eq hI (congrArg (cfM D L) (by rw [a_write, hz, ex1]; first | rfl | (simp only [if_pos c_27]; rfl))), hS.F ht⟩) hS.2.2 dX13_write_49
    · skip
      have c_9 : ¬ 0 ≤ kq := fun z => c_9 ((nle (a := 0) (b := kq) (rfl) (rfl) (by omega) (by omega)).mpr z)
      exact absurd (Nat.zero_le _) c_9
  · skip
    obtain ⟨sn, hs, es0, hb0, ez⟩ := shq_r hz
    obtain ⟨hbit, sz, hsz, esz⟩ := hmk sn hs
    have ez2 : z = (tOf (x.2.1 3 sn), sz, fun i => x.2.1 5 (40 * sn + i)) := by rw [ez, esz, nI_clamp (by omega)]
    subst ez2
    subst es0
    refine c_r (k_V (As := [.int (nI sn)]) (rest := []) F (k_X13_whyNone_r x sn hs hb0) (cwV 1 hts (lw_V q1456 q1458 qs74 q107 q1459) rfl rfl rfl (by decide +kernel) ⟨Nat.le_of_ble_eq_true rfl, Nat.le_of_ble_eq_true rfl⟩) hI hK (hw.recv hI hK (mf_main) rfl) rfl hl.1 rfl (Nat.le_of_ble_eq_true rfl) dX13_write_2 ⟨Nat.le_of_ble_eq_true rfl, Nat.le_of_ble_eq_true rfl⟩) ?_
    refine lv_istore (lv' := [(4, .int (-1)), (0, .ref (L 0)), (1, .int (nI sn)), (2, .int i), (3, .int v)]) hx hb dX13_write_5 hl (by decide) rfl (fun ls hl => ?_)
    refine lv_iload hx hb dX13_write_7 (lv_at hl 0 rfl) ?_
    refine lv_if_ge (tgt := 34) hx hb dX13_write_9 (by decide) (fun c_9 => ?_) (fun c_9 => ?_)
    · skip
      have c_9 := Int32.not_lt.mpr c_9
      exact absurd (by decide) c_9
    · skip
      have c_9 := Int32.not_le.mp c_9
      refine lv_iload_n hx hb dX13_write_12 rfl (lv_at hl 3 rfl) ?_
      refine lv_i2l (v := (i : Int32).toInt64) hx hb dX13_write_13 rfl ?_
      refine lv_lconst (v := 0) hx hb dX13_write_14 (by decide) ?_
      refine lv_aload_n hx hb dX13_write_15 rfl (lv_at hl 1 rfl) ?_
      refine r_get (C := RX13) (T := TX13) (N := 18) hx hb hts in_X13 hown hK hI (mf_main) rfl 15 (by decide) (hts _ q1179) (fun _ h => h) rfl dX13_write_16 ?_
      refine lv_iload_n hx hb dX13_write_19 rfl (lv_at hl 2 rfl) ?_
      refine n_iald (k := sn) hx hb hK hI (mf_size) (rfl) (by omega) (by decide) dX13_write_20 ?_
      refine lv_iconst (v := 1) hx hb dX13_write_21 (by decide) ?_
      refine lv_isub hx hb dX13_write_22 ?_
      refine lv_i2l (v := (((x.2.1 4 sn) - (1 : Int32)) : Int32).toInt64) hx hb dX13_write_23 rfl ?_
      refine c_r (k_S (As := [.long ((i : Int32).toInt64), .long 0, .long ((((x.2.1 4 sn) - (1 : Int32)) : Int32).toInt64)]) (rest := []) F (k_X13_in i 0 ((x.2.1 4 sn) - (1 : Int32)) ((i : Int32).toInt64 : Int64) (0 : Int64) ((((x.2.1 4 sn) - (1 : Int32)) : Int32).toInt64 : Int64) rfl (by decide) rfl) (va_cwS 3 hts (lw_S q1227 q1228 q107 q1229) rfl rfl rfl (by decide +kernel) ⟨Nat.le_of_ble_eq_true rfl, Nat.le_of_ble_eq_true rfl⟩) rfl hl.1 rfl (Nat.le_of_ble_eq_true rfl) dX13_write_24 ⟨Nat.le_of_ble_eq_true rfl, Nat.le_of_ble_eq_true rfl⟩) ?_
      refine lv_if_ne (tgt := 34) hx hb dX13_write_27 (by decide) (fun c_27 => ?_) (fun c_27 => ?_)
      · skip
        rw [esz] at c_27
        refine lv_iload hx hb dX13_write_34 (lv_at hl 0 rfl) ?_
        refine lv_istore (lv' := [(4, .int (-1)), (0, .ref (L 0)), (1, .int (nI sn)), (2, .int i), (3, .int v)]) hx hb dX13_write_36 hl (by decide) rfl (fun ls hl => ?_)
        refine lv_iload hx hb dX13_write_38 (lv_at hl 0 rfl) ?_
        refine lv_if_lt (tgt := 50) hx hb dX13_write_40 (by decide) (fun c_40 => ?_) (fun c_40 => ?_)
        · skip
          obtain ⟨j, hj, ei⟩ := in_sz (by omega) c_27
          subst ei
          refine lv_aload_n hx hb dX13_write_50 rfl (lv_at hl 1 rfl) ?_
          refine r_get (C := RX13) (T := TX13) (N := 18) hx hb hts in_X13 hown hK hI (mf_main) rfl 16 (by decide) (hts _ q1180) (fun _ h => h) rfl dX13_write_51 ?_
          refine lv_bipush (v := 40) hx hb dX13_write_54 (by decide) ?_
          refine lv_iload_n hx hb dX13_write_56 rfl (lv_at hl 2 rfl) ?_
          refine lv_imul hx hb dX13_write_57 ?_
          refine lv_iload_n hx hb dX13_write_58 rfl (lv_at hl 3 rfl) ?_
          refine lv_iadd hx hb dX13_write_59 ?_
          refine lv_aload_n hx hb dX13_write_60 rfl (lv_at hl 1 rfl) ?_
          refine r_get (C := RX13) (T := TX13) (N := 18) hx hb hts in_X13 hown hK hI (mf_main) rfl 14 (by decide) (hts _ q1178) (fun _ h => h) rfl dX13_write_61 ?_
          refine lv_iload_n hx hb dX13_write_64 rfl (lv_at hl 2 rfl) ?_
          refine n_iald (k := sn) hx hb hK hI (mf_bits) (rfl) (by omega) (by decide) dX13_write_65 ?_
          refine lv_bipush (v := 8) hx hb dX13_write_66 (by decide) ?_
          refine lv_icmp_ne (tgt := 76) hx hb dX13_write_68 (by decide) (fun c_68 => ?_) (fun c_68 => ?_)
          · skip
            refine lv_aload_n hx hb dX13_write_76 rfl (lv_at hl 1 rfl) ?_
            refine r_get (C := RX13) (T := TX13) (N := 18) hx hb hts in_X13 hown hK hI (mf_main) rfl 14 (by decide) (hts _ q1178) (fun _ h => h) rfl dX13_write_77 ?_
            refine lv_iload_n hx hb dX13_write_80 rfl (lv_at hl 2 rfl) ?_
            refine n_iald (k := sn) hx hb hK hI (mf_bits) (rfl) (by omega) (by decide) dX13_write_81 ?_
            refine lv_bipush (v := 16) hx hb dX13_write_82 (by decide) ?_
            refine lv_icmp_ne (tgt := 92) hx hb dX13_write_84 (by decide) (fun c_84 => ?_) (fun c_84 => ?_)
            · skip
              refine lv_iload_n hx hb dX13_write_92 rfl (lv_at hl 4 rfl) ?_
              obtain ⟨x2, ex2⟩ : ∃ z, z = yr x 5 ((40 * sn) + j) v := ⟨_, rfl⟩
              refine n_iast (cf' := cfM D L x2) (k := ((40 * sn) + j)) hx hb hK hI hS (mf_num) (na_add (na_mul (rfl) (rfl)) (rfl)) (by omega) (by decide) (by rw [ex2]; exact ms_r (r := 5) (by decide) (by decide) mf_num) dX13_write_93 (fun H1 locs1 hI hS => ?_)
              refine lv_iconst (v := 1) hx hb dX13_write_94 (by decide) ?_
              exact W.iret hx hb hr (fun t ht _ => ⟨rI (by rw [a_write, hz]; simp only [if_neg c_27]; rfl), by rw [ht]; exact hw_eq hI (congrArg (cfM D L) (by rw [a_write, hz, ex2]; simp only [if_neg c_27]; rw [aMW, nI_clamp (by omega), nI_clamp (by omega)]; first | (rw [c_68]; rfl) | (rw [c_84]; rfl) | (rw [((hbit.resolve_left hb0).resolve_left c_68).resolve_left c_84]; rfl))), hS.F ht⟩) hS.2.2 dX13_write_95
            · skip
              refine lv_iload_n hx hb dX13_write_87 rfl (lv_at hl 4 rfl) ?_
              refine lv_i2s (v := (v : Int32).toInt16.toInt32) hx hb dX13_write_88 rfl ?_
              refine lv_goto (tgt := 93) hx hb dX13_write_89 (by decide) ?_
              obtain ⟨x3, ex3⟩ : ∃ z, z = yr x 5 ((40 * sn) + j) ((v : Int32).toInt16.toInt32) := ⟨_, rfl⟩
              refine n_iast (cf' := cfM D L x3) (k := ((40 * sn) + j)) hx hb hK hI hS (mf_num) (na_add (na_mul (rfl) (rfl)) (rfl)) (by omega) (by decide) (by rw [ex3]; exact ms_r (r := 5) (by decide) (by decide) mf_num) dX13_write_93 (fun H1 locs1 hI hS => ?_)
              refine lv_iconst (v := 1) hx hb dX13_write_94 (by decide) ?_
              exact W.iret hx hb hr (fun t ht _ => ⟨rI (by rw [a_write, hz]; simp only [if_neg c_27]; rfl), by rw [ht]; exact hw_eq hI (congrArg (cfM D L) (by rw [a_write, hz, ex3]; simp only [if_neg c_27]; rw [aMW, nI_clamp (by omega), nI_clamp (by omega)]; first | (rw [c_68]; rfl) | (rw [c_84]; rfl) | (rw [((hbit.resolve_left hb0).resolve_left c_68).resolve_left c_84]; rfl))), hS.F ht⟩) hS.2.2 dX13_write_95
          · skip
            refine lv_iload_n hx hb dX13_write_71 rfl (lv_at hl 4 rfl) ?_
            refine lv_i2b (v := (v : Int32).toInt8.toInt32) hx hb dX13_write_72 rfl ?_
            refine lv_goto (tgt := 93) hx hb dX13_write_73 (by decide) ?_
            obtain ⟨x4, ex4⟩ : ∃ z, z = yr x 5 ((40 * sn) + j) ((v : Int32).toInt8.toInt32) := ⟨_, rfl⟩
            refine n_iast (cf' := cfM D L x4) (k := ((40 * sn) + j)) hx hb hK hI hS (mf_num) (na_add (na_mul (rfl) (rfl)) (rfl)) (by omega) (by decide) (by rw [ex4]; exact ms_r (r := 5) (by decide) (by decide) mf_num) dX13_write_93 (fun H1 locs1 hI hS => ?_)
            refine lv_iconst (v := 1) hx hb dX13_write_94 (by decide) ?_
            exact W.iret hx hb hr (fun t ht _ => ⟨rI (by rw [a_write, hz]; simp only [if_neg c_27]; rfl), by rw [ht]; exact hw_eq hI (congrArg (cfM D L) (by rw [a_write, hz, ex4]; simp only [if_neg c_27]; rw [aMW, nI_clamp (by omega), nI_clamp (by omega)]; first | (rw [c_68]; rfl) | (rw [c_84]; rfl) | (rw [((hbit.resolve_left hb0).resolve_left c_68).resolve_left c_84]; rfl))), hS.F ht⟩) hS.2.2 dX13_write_95
        · skip
          exact absurd (by decide) c_40
      · skip
        rw [esz] at c_27
        refine lv_iconst (v := 0) hx hb dX13_write_30 (by decide) ?_
        refine lv_goto (tgt := 36) hx hb dX13_write_31 (by decide) ?_
        refine lv_istore (lv' := [(4, .int 0), (0, .ref (L 0)), (1, .int (nI sn)), (2, .int i), (3, .int v)]) hx hb dX13_write_36 hl (by decide) rfl (fun ls hl => ?_)
        refine lv_iload hx hb dX13_write_38 (lv_at hl 0 rfl) ?_
        refine lv_if_lt (tgt := 50) hx hb dX13_write_40 (by decide) (fun c_40 => ?_) (fun c_40 => ?_)
        · skip
          have c_40 : 0 < 0 := (nlt (a := 0) (b := 0) (rfl) (rfl) (by omega) (by omega)).mp c_40
          exact absurd c_40 (by decide)
        · skip
          have c_40 : ¬ 0 < 0 := fun z => c_40 ((nlt (a := 0) (b := 0) (rfl) (rfl) (by omega) (by omega)).mpr z)
          refine lv_aload_n hx hb dX13_write_43 rfl (lv_at hl 1 rfl) ?_
          refine lv_iload hx hb dX13_write_44 (lv_at hl 0 rfl) ?_
          refine c_m (k_V (As := [.int 0]) (rest := []) F (k_X13_finds x 0 (by decide)) (cwV 1 hts (lw_V q1238 q1240 qs47 q107 q1241) rfl rfl rfl (by decide +kernel) ⟨Nat.le_of_ble_eq_true rfl, Nat.le_of_ble_eq_true rfl⟩) hI hK (hw.recv hI hK (mf_main) rfl) rfl hl.1 rfl (Nat.le_of_ble_eq_true rfl) dX13_write_46 ⟨Nat.le_of_ble_eq_true rfl, Nat.le_of_ble_eq_true rfl⟩) hS (fun H1 locs1 hI hS => ?_)
          obtain ⟨x5, ex5⟩ : ∃ z, z = (fndM x 0) := ⟨_, rfl⟩
          rw [← ex5] at hI
          exact W.iret hx hb hr (fun t ht _ => ⟨rI (by rw [a_write, hz]; first | rfl | (simp only [if_pos c_27]; rfl)), by rw [ht]; exact hw_eq hI (congrArg (cfM D L) (by rw [a_write, hz, ex5]; first | rfl | (simp only [if_pos c_27]; rfl))), hS.F ht⟩) hS.2.2 dX13_write_49
set_option maxHeartbeats 1000000 in
theorem k_X13_load {l : Launch} {D : va_G} {L : Nat → Nat} {A : Nat → Prop} (x : mst) (hmk : shMk x) (s0 : Int32) : Met l yX13_load (ws_ yX13_load cX13_load 4 (some .int)) ({ frames := 3, cells := 0, slots := 0, locals := 66 } : Room) (va_Pc [.ref (L 0), .int s0] (pI D (cfM D L x) A)) (nQ D (cfM D L (aM x (a_load (shMq x) (x.1 0) s0))) A (some (.int (aR (a_load (shMq x) (x.1 0) s0))))) 0 0 A := by
  refine met_I (by decide) rfl (Nat.le_of_ble_eq_true rfl) ?_
  intro p e s m below meth c ls hx hb hr hml hown hts hlocks hl hI hK
  have F : CallFix p m c cX13_load 4 s _ lw_all RX13 := ⟨hx, hb, hml, hown, hts⟩
  have hl : lv_has ls 4 [(0, .ref (L 0)), (1, .int s0)] := hl
  have hS : va_S A s.heap s.heap [] := va_S.rf
  refine lv_aload_n hx hb dX13_load_0 rfl (lv_at hl 0 rfl) ?_
  refine lv_iload_n hx hb dX13_load_1 rfl (lv_at hl 1 rfl) ?_
  rcases hz : shq (shMq x) s0 with kq | z
  · skip
    have hkq : kq < 7 := by rcases shq_l hz with h | h <;> omega
    refine c_r (k_V (As := [.int s0]) (rest := []) F (k_X13_whyNone_l x s0 kq hz) (cwV 1 hts (lw_V q1456 q1458 qs74 q107 q1459) rfl rfl rfl (by decide +kernel) ⟨Nat.le_of_ble_eq_true rfl, Nat.le_of_ble_eq_true rfl⟩) hI hK (hw.recv hI hK (mf_main) rfl) rfl hl.1 rfl (Nat.le_of_ble_eq_true rfl) dX13_load_2 ⟨Nat.le_of_ble_eq_true rfl, Nat.le_of_ble_eq_true rfl⟩) ?_
    refine lv_istore_n (lv' := [(2, .int (nI kq)), (0, .ref (L 0)), (1, .int s0)]) hx hb dX13_load_5 rfl hl (by decide) rfl (fun ls hl => ?_)
    refine lv_iload_n hx hb dX13_load_6 rfl (lv_at hl 0 rfl) ?_
    refine lv_if_lt (tgt := 16) hx hb dX13_load_7 (by decide) (fun c_7 => ?_) (fun c_7 => ?_)
    · skip
      have c_7 : kq < 0 := (nlt (a := kq) (b := 0) (rfl) (rfl) (by omega) (by omega)).mp c_7
      exact absurd c_7 (Nat.not_lt_zero _)
    · skip
      have c_7 : ¬ kq < 0 := fun z => c_7 ((nlt (a := kq) (b := 0) (rfl) (rfl) (by omega) (by omega)).mpr z)
      refine lv_aload_n hx hb dX13_load_10 rfl (lv_at hl 1 rfl) ?_
      refine lv_iload_n hx hb dX13_load_11 rfl (lv_at hl 0 rfl) ?_
      refine c_m (k_V (As := [.int (nI kq)]) (rest := []) F (k_X13_finds x kq (by omega)) (cwV 1 hts (lw_V q1238 q1240 qs47 q107 q1241) rfl rfl rfl (by decide +kernel) ⟨Nat.le_of_ble_eq_true rfl, Nat.le_of_ble_eq_true rfl⟩) hI hK (hw.recv hI hK (mf_main) rfl) rfl hl.1 rfl (Nat.le_of_ble_eq_true rfl) dX13_load_12 ⟨Nat.le_of_ble_eq_true rfl, Nat.le_of_ble_eq_true rfl⟩) hS (fun H1 locs1 hI hS => ?_)
      obtain ⟨x1, ex1⟩ : ∃ z, z = (fndM x kq) := ⟨_, rfl⟩
      rw [← ex1] at hI
      exact W.iret hx hb hr (fun t ht _ => ⟨rI (by rw [a_load, hz]; rfl), by rw [ht]; exact hw_eq hI (congrArg (cfM D L) (by rw [a_load, hz, ex1]; rfl)), hS.F ht⟩) hS.2.2 dX13_load_15
  · skip
    obtain ⟨sn, hs, es0, hb0, ez⟩ := shq_r hz
    obtain ⟨hbit, sz, hsz, esz⟩ := hmk sn hs
    have ez2 : z = (tOf (x.2.1 3 sn), sz, fun i => x.2.1 5 (40 * sn + i)) := by rw [ez, esz, nI_clamp (by omega)]
    subst ez2
    subst es0
    refine c_r (k_V (As := [.int (nI sn)]) (rest := []) F (k_X13_whyNone_r x sn hs hb0) (cwV 1 hts (lw_V q1456 q1458 qs74 q107 q1459) rfl rfl rfl (by decide +kernel) ⟨Nat.le_of_ble_eq_true rfl, Nat.le_of_ble_eq_true rfl⟩) hI hK (hw.recv hI hK (mf_main) rfl) rfl hl.1 rfl (Nat.le_of_ble_eq_true rfl) dX13_load_2 ⟨Nat.le_of_ble_eq_true rfl, Nat.le_of_ble_eq_true rfl⟩) ?_
    refine lv_istore_n (lv' := [(2, .int (-1)), (0, .ref (L 0)), (1, .int (nI sn))]) hx hb dX13_load_5 rfl hl (by decide) rfl (fun ls hl => ?_)
    refine lv_iload_n hx hb dX13_load_6 rfl (lv_at hl 0 rfl) ?_
    refine lv_if_lt (tgt := 16) hx hb dX13_load_7 (by decide) (fun c_7 => ?_) (fun c_7 => ?_)
    · skip
      refine lv_iconst (v := 0) hx hb dX13_load_16 (by decide) ?_
      refine lv_istore_n (lv' := [(3, .int 0), (2, .int (-1)), (0, .ref (L 0)), (1, .int (nI sn))]) hx hb dX13_load_17 rfl hl (by decide) rfl (fun ls hl => ?_)
      have lp18 : ∀ (fuel : Nat) (i : Nat), (i ≤ 6) → (i ≤ sz) → (fstB (ldP (tOf (x.2.1 3 sn), sz, fun i => x.2.1 5 (40 * sn + i))) 7 0 = fstB (ldP (tOf (x.2.1 3 sn), sz, fun i => x.2.1 5 (40 * sn + i))) (7 - i) i) → 6 - i < fuel → ∀ (v3 : Int32), v3 = nI i → ∀ (xc18 : mst), xc18 = ys x 0 (ldW (tOf (x.2.1 3 sn), sz, fun i => x.2.1 5 (40 * sn + i)) (x.1 0) i) → ∀ (H : Heap) (locs : List Loc), hw D (cfM D L xc18) A H → va_S A s.heap H locs → ∀ (ls : Array Slot), lv_has ls 4 [(0, .ref (L 0)), (1, .int (nI sn)), (2, .int (-1)), (3, .int v3)] → W p l e ({ frames := 3, cells := 0, slots := 0, locals := 66 } : Room) s m ([.ref (L 0), .int (nI sn)] : List Value).toArray below meth c H locs 0 0 (MQ below (nQ D (cfM D L (aM x (a_load (shMq x) (x.1 0) (nI sn)))) A (some (.int (aR (a_load (shMq x) (x.1 0) (nI sn)))))) ([.ref (L 0), .int (nI sn)] : List Value).toArray s 0 0 A) (F0 m 18 ls []) := by
        intro fuel
        induction fuel with
        | zero => intro i hi hi2 hp hf; exact absurd hf (Nat.not_lt_zero _)
        | succ fuel ih18 =>
          intro i hi hi2 hp hf18 v3 e3  xc18 exc18 H locs hI hS ls hl
          subst e3
          have hq5_xc18 : xc18.2.1 5 = x.2.1 5 := by rw [exc18]; (try rfl)
          have hq4_xc18 : xc18.2.1 4 sn = nI sz := by rw [exc18]; exact esz
          refine lv_iload_n hx hb dX13_load_18 rfl (lv_at hl 3 rfl) ?_
          refine lv_aload_n hx hb dX13_load_19 rfl (lv_at hl 0 rfl) ?_
          refine r_get (C := RX13) (T := TX13) (N := 18) hx hb hts in_X13 hown hK hI (mf_main) rfl 15 (by decide) (hts _ q1179) (fun _ h => h) rfl dX13_load_20 ?_
          refine lv_iload_n hx hb dX13_load_23 rfl (lv_at hl 1 rfl) ?_
          refine n_iald (k := sn) hx hb hK hI (mf_size) (rfl) (by omega) (by decide) dX13_load_24 ?_
          refine lv_icmp_ge (tgt := 76) hx hb dX13_load_25 (by decide) (fun c_25 => ?_) (fun c_25 => ?_)
          · skip
            have c_25 : sz ≤ i := (nle (a := sz) (b := i) (hq4_xc18) (rfl) (by omega) (by omega)).mp c_25
            have hE : ldN (tOf (x.2.1 3 sn), sz, fun i => x.2.1 5 (40 * sn + i)) = i := by rw [ldN, hp]; exact fstB_stop (ld_st (z := (tOf (x.2.1 3 sn), sz, fun i => x.2.1 5 (40 * sn + i))) (i := i) (by first | (left; show sz ≤ i; omega) | (right; left; omega) | (right; right; rw [hq5_xc18] at c_48; exact c_48))) (by omega)
            refine lv_iload_n hx hb dX13_load_76 rfl (lv_at hl 3 rfl) ?_
            exact W.iret hx hb hr (fun t ht _ => ⟨rI (by rw [a_load, hz]; simp only [hE]; rfl), by rw [ht]; exact hw_eq hI (congrArg (cfM D L) (by rw [a_load, hz, exc18]; simp only [hE]; rfl)), hS.F ht⟩) hS.2.2 dX13_load_77
          · skip
            have c_25 : ¬ sz ≤ i := fun z => c_25 ((nle (a := sz) (b := i) (hq4_xc18) (rfl) (by omega) (by omega)).mpr z)
            refine lv_iload_n hx hb dX13_load_28 rfl (lv_at hl 3 rfl) ?_
            refine lv_bipush (v := 6) hx hb dX13_load_29 (by decide) ?_
            refine lv_icmp_ge (tgt := 76) hx hb dX13_load_31 (by decide) (fun c_31 => ?_) (fun c_31 => ?_)
            · skip
              have c_31 : 6 ≤ i := (nle (a := 6) (b := i) (rfl) (rfl) (by omega) (by omega)).mp c_31
              have hE : ldN (tOf (x.2.1 3 sn), sz, fun i => x.2.1 5 (40 * sn + i)) = i := by rw [ldN, hp]; exact fstB_stop (ld_st (z := (tOf (x.2.1 3 sn), sz, fun i => x.2.1 5 (40 * sn + i))) (i := i) (by first | (left; show sz ≤ i; omega) | (right; left; omega) | (right; right; rw [hq5_xc18] at c_48; exact c_48))) (by omega)
              refine lv_iload_n hx hb dX13_load_76 rfl (lv_at hl 3 rfl) ?_
              exact W.iret hx hb hr (fun t ht _ => ⟨rI (by rw [a_load, hz]; simp only [hE]; rfl), by rw [ht]; exact hw_eq hI (congrArg (cfM D L) (by rw [a_load, hz, exc18]; simp only [hE]; rfl)), hS.F ht⟩) hS.2.2 dX13_load_77
            · skip
              have c_31 : ¬ 6 ≤ i := fun z => c_31 ((nle (a := 6) (b := i) (rfl) (rfl) (by omega) (by omega)).mpr z)
              refine lv_aload_n hx hb dX13_load_34 rfl (lv_at hl 0 rfl) ?_
              refine r_get (C := RX13) (T := TX13) (N := 18) hx hb hts in_X13 hown hK hI (mf_main) rfl 16 (by decide) (hts _ q1180) (fun _ h => h) rfl dX13_load_35 ?_
              refine lv_bipush (v := 40) hx hb dX13_load_38 (by decide) ?_
              refine lv_iload_n hx hb dX13_load_40 rfl (lv_at hl 1 rfl) ?_
              refine lv_imul hx hb dX13_load_41 ?_
              refine lv_iload_n hx hb dX13_load_42 rfl (lv_at hl 3 rfl) ?_
              refine lv_iadd hx hb dX13_load_43 ?_
              refine n_iald (k := ((40 * sn) + i)) hx hb hK hI (mf_num) (na_add (na_mul (rfl) (rfl)) (rfl)) (by omega) (by decide) dX13_load_44 ?_
              refine c_r (k_S (As := [.int (xc18.2.1 5 ((40 * sn) + i))]) (rest := []) F (k_X13_isSaying (xc18.2.1 5 ((40 * sn) + i))) (va_cwS 1 hts (lw_S q1230 q1231 q107 q1232) rfl rfl rfl (by decide +kernel) ⟨Nat.le_of_ble_eq_true rfl, Nat.le_of_ble_eq_true rfl⟩) rfl hl.1 rfl (Nat.le_of_ble_eq_true rfl) dX13_load_45 ⟨Nat.le_of_ble_eq_true rfl, Nat.le_of_ble_eq_true rfl⟩) ?_
              refine lv_if_eq (tgt := 76) hx hb dX13_load_48 (by decide) (fun c_48 => ?_) (fun c_48 => ?_)
              · skip
                have hE : ldN (tOf (x.2.1 3 sn), sz, fun i => x.2.1 5 (40 * sn + i)) = i := by rw [ldN, hp]; exact fstB_stop (ld_st (z := (tOf (x.2.1 3 sn), sz, fun i => x.2.1 5 (40 * sn + i))) (i := i) (by first | (left; show sz ≤ i; omega) | (right; left; omega) | (right; right; rw [hq5_xc18] at c_48; exact c_48))) (by omega)
                refine lv_iload_n hx hb dX13_load_76 rfl (lv_at hl 3 rfl) ?_
                exact W.iret hx hb hr (fun t ht _ => ⟨rI (by rw [a_load, hz]; simp only [hE]; rfl), by rw [ht]; exact hw_eq hI (congrArg (cfM D L) (by rw [a_load, hz, exc18]; simp only [hE]; rfl)), hS.F ht⟩) hS.2.2 dX13_load_77
              · skip
                refine lv_aload_n hx hb dX13_load_51 rfl (lv_at hl 0 rfl) ?_
                refine r_get (C := RX13) (T := TX13) (N := 18) hx hb hts in_X13 hown hK hI (mf_main) rfl 0 (by decide) (hts _ q1164) (fun _ h => h) rfl dX13_load_52 ?_
                refine lv_iconst (v := 3) hx hb dX13_load_55 (by decide) ?_
                refine lv_iload_n hx hb dX13_load_56 rfl (lv_at hl 3 rfl) ?_
                refine lv_iadd hx hb dX13_load_57 ?_
                refine lv_aload_n hx hb dX13_load_58 rfl (lv_at hl 0 rfl) ?_
                refine r_get (C := RX13) (T := TX13) (N := 18) hx hb hts in_X13 hown hK hI (mf_main) rfl 16 (by decide) (hts _ q1180) (fun _ h => h) rfl dX13_load_59 ?_
                refine lv_bipush (v := 40) hx hb dX13_load_62 (by decide) ?_
                refine lv_iload_n hx hb dX13_load_64 rfl (lv_at hl 1 rfl) ?_
                refine lv_imul hx hb dX13_load_65 ?_
                refine lv_iload_n hx hb dX13_load_66 rfl (lv_at hl 3 rfl) ?_
                refine lv_iadd hx hb dX13_load_67 ?_
                refine n_iald (k := ((40 * sn) + i)) hx hb hK hI (mf_num) (na_add (na_mul (rfl) (rfl)) (rfl)) (by omega) (by decide) dX13_load_68 ?_
                obtain ⟨x2, ex2⟩ : ∃ z, z = ys xc18 0 (u2 (xc18.1 0) 0 i (xc18.2.1 5 ((40 * sn) + i))) := ⟨_, rfl⟩
                refine n_iast (cf' := cfM D L x2) (k := (3 + i)) hx hb hK hI hS (mf_d) (na_add (rfl) (rfl)) (by omega) (by decide) (by rw [ex2]; exact ms_w (w := 0) (by decide) (mu_list _ (by omega) _) (by rw [u2_ne (by decide)])) dX13_load_69 (fun H1 locs1 hI hS => ?_)
                refine lv_iinc (v := (nI (i + 1))) (lv' := [(3, .int (nI (i + 1))), (0, .ref (L 0)), (1, .int (nI sn)), (2, .int (-1))]) hx hb dX13_load_70 hl (k := 3) rfl (nI_1 _) (by decide) rfl (fun ls hl => ?_)
                refine lv_goto (tgt := 18) hx hb dX13_load_73 (by decide) ?_
                exact ih18 (i + 1) (by omega) (by omega) (by rw [hq5_xc18] at c_48; rw [hp, fstB_go (ld_go (z := (tOf (x.2.1 3 sn), sz, fun i => x.2.1 5 (40 * sn + i))) (i := i) (by show i < sz; omega) (by omega) c_48) (by omega), show 7 - i - 1 = 7 - (i + 1) by omega]) (by omega) (nI (i + 1)) (rfl) x2 (by rw [ex2, exc18]; simp only [ys_at, ys_ys]; rfl) _ _ hI hS ls (lv_sub hl [1, 2, 3, 0] rfl)
      exact lp18 (_ + 1) (0) (by decide) (Nat.zero_le _) (rfl) (Nat.lt_succ_self _) 0 (rfl) x ((ys_self _ _).symm) _ _ hI hS ls (lv_sub hl [2, 3, 1, 0] rfl)
    · skip
      exact absurd (by decide) c_7
set_option maxHeartbeats 1000000 in
theorem k_X13_judge {l : Launch} {D : va_G} {L : Nat → Nat} {A : Nat → Prop} (x : mst) (hO : wOk (x.1 0)) (hmk : shMk x) (s0 : Int32) : Met l yX13_judge (ws_ yX13_judge cX13_judge 4 (some .int)) ({ frames := 3, cells := 0, slots := 0, locals := 66 } : Room) (va_Pc [.ref (L 0), .int s0] (pI D (cfM D L x) A)) (nQ D (cfM D L (aM x (a_judge (shMq x) (x.1 0) s0))) A (some (.int (aR (a_judge (shMq x) (x.1 0) s0))))) 0 0 A := by
  refine met_I (by decide) rfl (Nat.le_of_ble_eq_true rfl) ?_
  intro p e s m below meth c ls hx hb hr hml hown hts hlocks hl hI hK
  have F : CallFix p m c cX13_judge 4 s _ lw_all RX13 := ⟨hx, hb, hml, hown, hts⟩
  have hl : lv_has ls 4 [(0, .ref (L 0)), (1, .int s0)] := hl
  have hS : va_S A s.heap s.heap [] := va_S.rf
  obtain ⟨nn, hn, h8⟩ : ∃ n, x.1 0 1 0 = nI n ∧ n ≤ 8 := ⟨_, hO.n⟩
  have hN : wN (x.1 0) = nn := by unfold wN; rw [hn, nI_clamp (by omega)]
  refine lv_aload_n hx hb dX13_judge_0 rfl (lv_at hl 0 rfl) ?_
  refine lv_iload_n hx hb dX13_judge_1 rfl (lv_at hl 1 rfl) ?_
  rcases hz : shq (shMq x) s0 with kq | z
  · skip
    have hkq : kq < 7 := by rcases shq_l hz with h | h <;> omega
    refine c_r (k_V (As := [.int s0]) (rest := []) F (k_X13_whyNone_l x s0 kq hz) (cwV 1 hts (lw_V q1456 q1458 qs74 q107 q1459) rfl rfl rfl (by decide +kernel) ⟨Nat.le_of_ble_eq_true rfl, Nat.le_of_ble_eq_true rfl⟩) hI hK (hw.recv hI hK (mf_main) rfl) rfl hl.1 rfl (Nat.le_of_ble_eq_true rfl) dX13_judge_2 ⟨Nat.le_of_ble_eq_true rfl, Nat.le_of_ble_eq_true rfl⟩) ?_
    refine lv_istore_n (lv' := [(2, .int (nI kq)), (0, .ref (L 0)), (1, .int s0)]) hx hb dX13_judge_5 rfl hl (by decide) rfl (fun ls hl => ?_)
    refine lv_iload_n hx hb dX13_judge_6 rfl (lv_at hl 0 rfl) ?_
    refine lv_if_lt (tgt := 16) hx hb dX13_judge_7 (by decide) (fun c_7 => ?_) (fun c_7 => ?_)
    · skip
      have c_7 : kq < 0 := (nlt (a := kq) (b := 0) (rfl) (rfl) (by omega) (by omega)).mp c_7
      exact absurd c_7 (Nat.not_lt_zero _)
    · skip
      have c_7 : ¬ kq < 0 := fun z => c_7 ((nlt (a := kq) (b := 0) (rfl) (rfl) (by omega) (by omega)).mpr z)
      refine lv_aload_n hx hb dX13_judge_10 rfl (lv_at hl 1 rfl) ?_
      refine lv_iload_n hx hb dX13_judge_11 rfl (lv_at hl 0 rfl) ?_
      refine c_m (k_V (As := [.int (nI kq)]) (rest := []) F (k_X13_finds x kq (by omega)) (cwV 1 hts (lw_V q1238 q1240 qs47 q107 q1241) rfl rfl rfl (by decide +kernel) ⟨Nat.le_of_ble_eq_true rfl, Nat.le_of_ble_eq_true rfl⟩) hI hK (hw.recv hI hK (mf_main) rfl) rfl hl.1 rfl (Nat.le_of_ble_eq_true rfl) dX13_judge_12 ⟨Nat.le_of_ble_eq_true rfl, Nat.le_of_ble_eq_true rfl⟩) hS (fun H1 locs1 hI hS => ?_)
      obtain ⟨x1, ex1⟩ : ∃ z, z = (fndM x kq) := ⟨_, rfl⟩
      rw [← ex1] at hI
      exact W.iret hx hb hr (fun t ht _ => ⟨rI (by rw [a_judge, hz]; rfl), by rw [ht]; exact hw_eq hI (congrArg (cfM D L) (by rw [a_judge, hz, ex1]; rfl)), hS.F ht⟩) hS.2.2 dX13_judge_15
  · skip
    obtain ⟨sn, hs, es0, hb0, ez⟩ := shq_r hz
    obtain ⟨hbit, sz, hsz, esz⟩ := hmk sn hs
    have ez2 : z = (tOf (x.2.1 3 sn), sz, fun i => x.2.1 5 (40 * sn + i)) := by rw [ez, esz, nI_clamp (by omega)]
    subst ez2
    subst es0
    refine c_r (k_V (As := [.int (nI sn)]) (rest := []) F (k_X13_whyNone_r x sn hs hb0) (cwV 1 hts (lw_V q1456 q1458 qs74 q107 q1459) rfl rfl rfl (by decide +kernel) ⟨Nat.le_of_ble_eq_true rfl, Nat.le_of_ble_eq_true rfl⟩) hI hK (hw.recv hI hK (mf_main) rfl) rfl hl.1 rfl (Nat.le_of_ble_eq_true rfl) dX13_judge_2 ⟨Nat.le_of_ble_eq_true rfl, Nat.le_of_ble_eq_true rfl⟩) ?_
    refine lv_istore_n (lv' := [(2, .int (-1)), (0, .ref (L 0)), (1, .int (nI sn))]) hx hb dX13_judge_5 rfl hl (by decide) rfl (fun ls hl => ?_)
    refine lv_iload_n hx hb dX13_judge_6 rfl (lv_at hl 0 rfl) ?_
    refine lv_if_lt (tgt := 16) hx hb dX13_judge_7 (by decide) (fun c_7 => ?_) (fun c_7 => ?_)
    · skip
      refine lv_iconst (v := 0) hx hb dX13_judge_16 (by decide) ?_
      refine lv_istore_n (lv' := [(3, .int 0), (2, .int (-1)), (0, .ref (L 0)), (1, .int (nI sn))]) hx hb dX13_judge_17 rfl hl (by decide) rfl (fun ls hl => ?_)
      have lp18 : ∀ (fuel : Nat) (i : Nat), (i ≤ sz) → (fstB (juP (x.1 0) (tOf (x.2.1 3 sn), sz, fun i => x.2.1 5 (40 * sn + i))) 41 0 = fstB (juP (x.1 0) (tOf (x.2.1 3 sn), sz, fun i => x.2.1 5 (40 * sn + i))) (41 - i) i) → sz - i < fuel → ∀ (v3 : Int32), v3 = nI i → ∀ (xc18 : mst), xc18 = x → ∀ (H : Heap) (locs : List Loc), hw D (cfM D L xc18) A H → va_S A s.heap H locs → ∀ (ls : Array Slot), lv_has ls 4 [(0, .ref (L 0)), (1, .int (nI sn)), (2, .int (-1)), (3, .int v3)] → W p l e ({ frames := 3, cells := 0, slots := 0, locals := 66 } : Room) s m ([.ref (L 0), .int (nI sn)] : List Value).toArray below meth c H locs 0 0 (MQ below (nQ D (cfM D L (aM x (a_judge (shMq x) (x.1 0) (nI sn)))) A (some (.int (aR (a_judge (shMq x) (x.1 0) (nI sn)))))) ([.ref (L 0), .int (nI sn)] : List Value).toArray s 0 0 A) (F0 m 18 ls []) := by
        intro fuel
        induction fuel with
        | zero => intro i hi hp hf; exact absurd hf (Nat.not_lt_zero _)
        | succ fuel ih18 =>
          intro i hi hp hf18 v3 e3  xc18 exc18 H locs hI hS ls hl
          subst e3
          have hq5_xc18 : xc18.2.1 5 = x.2.1 5 := by rw [exc18]; (try rfl)
          have hq4_xc18 : xc18.2.1 4 sn = nI sz := by rw [exc18]; exact esz
          refine lv_iload_n hx hb dX13_judge_18 rfl (lv_at hl 3 rfl) ?_
          refine lv_aload_n hx hb dX13_judge_19 rfl (lv_at hl 0 rfl) ?_
          refine r_get (C := RX13) (T := TX13) (N := 18) hx hb hts in_X13 hown hK hI (mf_main) rfl 15 (by decide) (hts _ q1179) (fun _ h => h) rfl dX13_judge_20 ?_
          refine lv_iload_n hx hb dX13_judge_23 rfl (lv_at hl 1 rfl) ?_
          refine n_iald (k := sn) hx hb hK hI (mf_size) (rfl) (by omega) (by decide) dX13_judge_24 ?_
          refine lv_icmp_ge (tgt := 66) hx hb dX13_judge_25 (by decide) (fun c_25 => ?_) (fun c_25 => ?_)
          · skip
            have c_25 : sz ≤ i := (nle (a := sz) (b := i) (hq4_xc18) (rfl) (by omega) (by omega)).mp c_25
            have hE : juN (x.1 0) (tOf (x.2.1 3 sn), sz, fun i => x.2.1 5 (40 * sn + i)) = i := by rw [juN, hp]; exact fstB_stop (ju_st (z := (tOf (x.2.1 3 sn), sz, fun i => x.2.1 5 (40 * sn + i))) (by left; show sz ≤ i; omega)) (by omega)
            refine lv_iconst (v := 0) hx hb dX13_judge_66 (by decide) ?_
            exact W.iret hx hb hr (fun t ht _ => ⟨rI (by rw [a_judge, hz]; simp only [hE]; rw [if_pos (show i = sz by omega)]; rfl), by rw [ht]; exact hw_eq hI (congrArg (cfM D L) (by rw [a_judge, hz]; simp only [aM, ys_self]; rw [exc18])), hS.F ht⟩) hS.2.2 dX13_judge_67
          · skip
            have c_25 : ¬ sz ≤ i := fun z => c_25 ((nle (a := sz) (b := i) (hq4_xc18) (rfl) (by omega) (by omega)).mpr z)
            refine lv_aload_n hx hb dX13_judge_28 rfl (lv_at hl 0 rfl) ?_
            refine lv_iload_n hx hb dX13_judge_29 rfl (lv_at hl 3 rfl) ?_
            refine c_r (k_V (As := [.int (nI i)]) (rest := []) F (k_X13_isGlove xc18 (nI i)) (cwV 1 hts (lw_V q1289 q1291 qs55 q107 q1292) rfl rfl rfl (by decide +kernel) ⟨Nat.le_of_ble_eq_true rfl, Nat.le_of_ble_eq_true rfl⟩) hI hK (hw.recv hI hK (mf_main) rfl) rfl hl.1 rfl (Nat.le_of_ble_eq_true rfl) dX13_judge_30 ⟨Nat.le_of_ble_eq_true rfl, Nat.le_of_ble_eq_true rfl⟩) ?_
            refine lv_if_eq (tgt := 56) hx hb dX13_judge_33 (by decide) (fun c_33 => ?_) (fun c_33 => ?_)
            · skip
              have hE : juN (x.1 0) (tOf (x.2.1 3 sn), sz, fun i => x.2.1 5 (40 * sn + i)) = i := by rw [juN, hp]; exact fstB_stop (ju_st (z := (tOf (x.2.1 3 sn), sz, fun i => x.2.1 5 (40 * sn + i))) (by first | (right; left; rw [exc18] at c_33; exact c_33) | (right; right; rw [exc18] at c_53; exact c_53))) (by omega)
              refine lv_iconst (v := 1) hx hb dX13_judge_56 (by decide) ?_
              refine lv_iload_n hx hb dX13_judge_57 rfl (lv_at hl 3 rfl) ?_
              refine lv_iadd hx hb dX13_judge_58 ?_
              exact W.iret hx hb hr (fun t ht _ => ⟨rI (by rw [a_judge, hz]; simp only [hE]; rw [if_neg (show ¬ i = sz by omega)]; show 1 + nI i = nI (1 + i); rw [show (1 : Int32) = nI 1 from rfl, nI_add]), by rw [ht]; exact hw_eq hI (congrArg (cfM D L) (by rw [a_judge, hz]; simp only [aM, ys_self]; rw [exc18])), hS.F ht⟩) hS.2.2 dX13_judge_59
            · skip
              have hi8 : i < 8 := by rw [exc18] at c_33; exact gl_8 hn h8 (by omega) c_33
              refine lv_aload_n hx hb dX13_judge_36 rfl (lv_at hl 0 rfl) ?_
              refine r_get (C := RX13) (T := TX13) (N := 18) hx hb hts in_X13 hown hK hI (mf_main) rfl 16 (by decide) (hts _ q1180) (fun _ h => h) rfl dX13_judge_37 ?_
              refine lv_bipush (v := 40) hx hb dX13_judge_40 (by decide) ?_
              refine lv_iload_n hx hb dX13_judge_42 rfl (lv_at hl 1 rfl) ?_
              refine lv_imul hx hb dX13_judge_43 ?_
              refine lv_iload_n hx hb dX13_judge_44 rfl (lv_at hl 3 rfl) ?_
              refine lv_iadd hx hb dX13_judge_45 ?_
              refine n_iald (k := ((40 * sn) + i)) hx hb hK hI (mf_num) (na_add (na_mul (rfl) (rfl)) (rfl)) (by omega) (by decide) dX13_judge_46 ?_
              refine lv_aload_n hx hb dX13_judge_47 rfl (lv_at hl 0 rfl) ?_
              refine lv_iload_n hx hb dX13_judge_48 rfl (lv_at hl 3 rfl) ?_
              refine lv_iconst (v := 5) hx hb dX13_judge_49 (by decide) ?_
              refine c_r (k_V (As := [.int (nI i), .int 5]) (rest := [.int (xc18.2.1 5 ((40 * sn) + i))]) F (k_X13_its xc18 (nI i) 5 i 5 (by omega) (by omega) rfl rfl) (cwV 2 hts (lw_V q1256 q1258 qs49 q107 q1259) rfl rfl rfl (by decide +kernel) ⟨Nat.le_of_ble_eq_true rfl, Nat.le_of_ble_eq_true rfl⟩) hI hK (hw.recv hI hK (mf_main) rfl) rfl hl.1 rfl (Nat.le_of_ble_eq_true rfl) dX13_judge_50 ⟨Nat.le_of_ble_eq_true rfl, Nat.le_of_ble_eq_true rfl⟩) ?_
              refine lv_icmp_eq (tgt := 60) hx hb dX13_judge_53 (by decide) (fun c_53 => ?_) (fun c_53 => ?_)
              · skip
                refine lv_iinc (v := (nI (i + 1))) (lv' := [(3, .int (nI (i + 1))), (0, .ref (L 0)), (1, .int (nI sn)), (2, .int (-1))]) hx hb dX13_judge_60 hl (k := 3) rfl (nI_1 _) (by decide) rfl (fun ls hl => ?_)
                refine lv_goto (tgt := 18) hx hb dX13_judge_63 (by decide) ?_
                exact ih18 (i + 1) (by omega) (by rw [exc18] at c_33 c_53; rw [hp, fstB_go (ju_go (z := (tOf (x.2.1 3 sn), sz, fun i => x.2.1 5 (40 * sn + i))) (by show i < sz; omega) c_33 c_53) (by omega), show 41 - i - 1 = 41 - (i + 1) by omega]) (by omega) (nI (i + 1)) (rfl) xc18 (exc18) _ _ hI hS ls (lv_sub hl [1, 2, 3, 0] rfl)
              · skip
                have hE : juN (x.1 0) (tOf (x.2.1 3 sn), sz, fun i => x.2.1 5 (40 * sn + i)) = i := by rw [juN, hp]; exact fstB_stop (ju_st (z := (tOf (x.2.1 3 sn), sz, fun i => x.2.1 5 (40 * sn + i))) (by first | (right; left; rw [exc18] at c_33; exact c_33) | (right; right; rw [exc18] at c_53; exact c_53))) (by omega)
                refine lv_iconst (v := 1) hx hb dX13_judge_56 (by decide) ?_
                refine lv_iload_n hx hb dX13_judge_57 rfl (lv_at hl 3 rfl) ?_
                refine lv_iadd hx hb dX13_judge_58 ?_
                exact W.iret hx hb hr (fun t ht _ => ⟨rI (by rw [a_judge, hz]; simp only [hE]; rw [if_neg (show ¬ i = sz by omega)]; show 1 + nI i = nI (1 + i); rw [show (1 : Int32) = nI 1 from rfl, nI_add]), by rw [ht]; exact hw_eq hI (congrArg (cfM D L) (by rw [a_judge, hz]; simp only [aM, ys_self]; rw [exc18])), hS.F ht⟩) hS.2.2 dX13_judge_59
      exact lp18 (_ + 1) (0) (Nat.zero_le _) (rfl) (Nat.lt_succ_self _) 0 (rfl) x (rfl) _ _ hI hS ls (lv_sub hl [2, 3, 1, 0] rfl)
    · skip
      exact absurd (by decide) c_7
set_option maxHeartbeats 4000000 in
theorem k_X13_copy {l : Launch} {D : va_G} {L : Nat → Nat} {A : Nat → Prop} (x : mst) (hmk : shMk x) (s0 fr t0 to n : Int32) : Met l yX13_copy (ws_ yX13_copy cX13_copy 7 (some .int)) ({ frames := 2, cells := 0, slots := 0, locals := 45 } : Room) (va_Pc [.ref (L 0), .int s0, .int fr, .int t0, .int to, .int n] (pI D (cfM D L x) A)) (jMQ D L (aMP x (a_copy (shMq x) s0 fr t0 to n)) A (some (.int (aW (fun _ => n) (a_copy (shMq x) s0 fr t0 to n))))) 0 0 A := by
  refine met_I (by decide) rfl (Nat.le_of_ble_eq_true rfl) ?_
  intro p e s m below meth c ls hx hb hr hml hown hts hlocks hl hI hK
  have F : CallFix p m c cX13_copy 7 s _ lw_all RX13 := ⟨hx, hb, hml, hown, hts⟩
  have hl : lv_has ls 7 [(0, .ref (L 0)), (1, .int s0), (2, .int fr), (3, .int t0), (4, .int to), (5, .int n)] := hl
  have hS : va_S A s.heap s.heap [] := va_S.rf
  refine lv_iload_n hx hb dX13_copy_0 rfl (lv_at hl 1 rfl) ?_
  refine c_r (k_S (As := [.int s0]) (rest := []) F (k_X13_isSheet s0) (va_cwS 1 hts (lw_S q1460 q1461 q107 q1462) rfl rfl rfl (by decide +kernel) ⟨Nat.le_of_ble_eq_true rfl, Nat.le_of_ble_eq_true rfl⟩) rfl hl.1 rfl (Nat.le_of_ble_eq_true rfl) dX13_copy_1 ⟨Nat.le_of_ble_eq_true rfl, Nat.le_of_ble_eq_true rfl⟩) ?_
  refine lv_if_eq (tgt := 14) hx hb dX13_copy_4 (by decide) (fun c_4 => ?_) (fun c_4 => ?_)
  · skip
    refine lv_aload_n hx hb dX13_copy_14 rfl (lv_at hl 0 rfl) ?_
    refine lv_iconst (v := 0) hx hb dX13_copy_15 (by decide) ?_
    refine c_m (k_V (As := [.int 0]) (rest := []) F (k_X13_finds x 0 (by decide)) (cwV 1 hts (lw_V q1238 q1240 qs47 q107 q1241) rfl rfl rfl (by decide +kernel) ⟨Nat.le_of_ble_eq_true rfl, Nat.le_of_ble_eq_true rfl⟩) hI hK (hw.recv hI hK (mf_main) rfl) rfl hl.1 rfl (Nat.le_of_ble_eq_true rfl) dX13_copy_16 ⟨Nat.le_of_ble_eq_true rfl, Nat.le_of_ble_eq_true rfl⟩) hS (fun H1 locs1 hI hS => ?_)
    obtain ⟨x1, ex1⟩ : ∃ z, z = (fndM x 0) := ⟨_, rfl⟩
    rw [← ex1] at hI
    exact W.iret hx hb hr (fun t ht _ => ⟨rI (by first | (rw [cp_0a c_4]; rfl) | (rw [cp_0b c_11]; rfl)), ⟨x1, (by first | (rw [cp_0a c_4, ex1]; exact jm_rfl) | (rw [cp_0b c_11, ex1]; exact jm_rfl)), by rw [ht]; exact hI⟩, hS.F ht⟩) hS.2.2 dX13_copy_19
  · skip
    refine lv_iload_n hx hb dX13_copy_7 rfl (lv_at hl 3 rfl) ?_
    refine c_r (k_S (As := [.int t0]) (rest := []) F (k_X13_isSheet t0) (va_cwS 1 hts (lw_S q1460 q1461 q107 q1462) rfl rfl rfl (by decide +kernel) ⟨Nat.le_of_ble_eq_true rfl, Nat.le_of_ble_eq_true rfl⟩) rfl hl.1 rfl (Nat.le_of_ble_eq_true rfl) dX13_copy_8 ⟨Nat.le_of_ble_eq_true rfl, Nat.le_of_ble_eq_true rfl⟩) ?_
    refine lv_if_ne (tgt := 20) hx hb dX13_copy_11 (by decide) (fun c_11 => ?_) (fun c_11 => ?_)
    · skip
      obtain ⟨sn, hs, es0⟩ := inI_to (b := 3) rfl (by decide) c_4
      have hs : sn < 4 := by omega
      obtain ⟨hbit, sz, hsz, esz⟩ := hmk sn hs
      obtain ⟨sn2, hs2, et0⟩ := inI_to (b := 3) rfl (by decide) c_11
      have hs2 : sn2 < 4 := by omega
      obtain ⟨hbit2, sz2, hsz2, esz2⟩ := hmk sn2 hs2
      subst es0
      subst et0
      refine lv_aload_n hx hb dX13_copy_20 rfl (lv_at hl 0 rfl) ?_
      refine r_get (C := RX13) (T := TX13) (N := 18) hx hb hts in_X13 hown hK hI (mf_main) rfl 14 (by decide) (hts _ q1178) (fun _ h => h) rfl dX13_copy_21 ?_
      refine lv_iload_n hx hb dX13_copy_24 rfl (lv_at hl 1 rfl) ?_
      refine n_iald (k := sn) hx hb hK hI (mf_bits) (rfl) (by omega) (by decide) dX13_copy_25 ?_
      refine lv_if_eq (tgt := 38) hx hb dX13_copy_26 (by decide) (fun c_26 => ?_) (fun c_26 => ?_)
      · skip
        refine lv_aload_n hx hb dX13_copy_38 rfl (lv_at hl 0 rfl) ?_
        refine lv_iconst (v := 5) hx hb dX13_copy_39 (by decide) ?_
        refine c_m (k_V (As := [.int 5]) (rest := []) F (k_X13_finds x 5 (by decide)) (cwV 1 hts (lw_V q1238 q1240 qs47 q107 q1241) rfl rfl rfl (by decide +kernel) ⟨Nat.le_of_ble_eq_true rfl, Nat.le_of_ble_eq_true rfl⟩) hI hK (hw.recv hI hK (mf_main) rfl) rfl hl.1 rfl (Nat.le_of_ble_eq_true rfl) dX13_copy_40 ⟨Nat.le_of_ble_eq_true rfl, Nat.le_of_ble_eq_true rfl⟩) hS (fun H1 locs1 hI hS => ?_)
        obtain ⟨x2, ex2⟩ : ∃ z, z = (fndM x 5) := ⟨_, rfl⟩
        rw [← ex2] at hI
        exact W.iret hx hb hr (fun t ht _ => ⟨rI (by rw [cp_5 hs hs2 (by first | exact Or.inl (shM_n c_26) | exact Or.inr (shM_n c_35))]; rfl), ⟨x2, (by rw [cp_5 hs hs2 (by first | exact Or.inl (shM_n c_26) | exact Or.inr (shM_n c_35)), ex2]; exact jm_rfl), by rw [ht]; exact hI⟩, hS.F ht⟩) hS.2.2 dX13_copy_43
      · skip
        refine lv_aload_n hx hb dX13_copy_29 rfl (lv_at hl 0 rfl) ?_
        refine r_get (C := RX13) (T := TX13) (N := 18) hx hb hts in_X13 hown hK hI (mf_main) rfl 14 (by decide) (hts _ q1178) (fun _ h => h) rfl dX13_copy_30 ?_
        refine lv_iload_n hx hb dX13_copy_33 rfl (lv_at hl 3 rfl) ?_
        refine n_iald (k := sn2) hx hb hK hI (mf_bits) (rfl) (by omega) (by decide) dX13_copy_34 ?_
        refine lv_if_ne (tgt := 44) hx hb dX13_copy_35 (by decide) (fun c_35 => ?_) (fun c_35 => ?_)
        · skip
          refine lv_aload_n hx hb dX13_copy_44 rfl (lv_at hl 0 rfl) ?_
          refine r_get (C := RX13) (T := TX13) (N := 18) hx hb hts in_X13 hown hK hI (mf_main) rfl 14 (by decide) (hts _ q1178) (fun _ h => h) rfl dX13_copy_45 ?_
          refine lv_iload_n hx hb dX13_copy_48 rfl (lv_at hl 1 rfl) ?_
          refine n_iald (k := sn) hx hb hK hI (mf_bits) (rfl) (by omega) (by decide) dX13_copy_49 ?_
          refine lv_aload_n hx hb dX13_copy_50 rfl (lv_at hl 0 rfl) ?_
          refine r_get (C := RX13) (T := TX13) (N := 18) hx hb hts in_X13 hown hK hI (mf_main) rfl 14 (by decide) (hts _ q1178) (fun _ h => h) rfl dX13_copy_51 ?_
          refine lv_iload_n hx hb dX13_copy_54 rfl (lv_at hl 3 rfl) ?_
          refine n_iald (k := sn2) hx hb hK hI (mf_bits) (rfl) (by omega) (by decide) dX13_copy_55 ?_
          refine lv_icmp_eq (tgt := 65) hx hb dX13_copy_56 (by decide) (fun c_56 => ?_) (fun c_56 => ?_)
          · skip
            refine lv_iload_n hx hb dX13_copy_65 rfl (lv_at hl 2 rfl) ?_
            refine lv_if_lt (tgt := 114) hx hb dX13_copy_66 (by decide) (fun c_66 => ?_) (fun c_66 => ?_)
            · skip
              refine lv_aload_n hx hb dX13_copy_114 rfl (lv_at hl 0 rfl) ?_
              refine lv_iconst (v := 0) hx hb dX13_copy_115 (by decide) ?_
              refine c_m (k_V (As := [.int 0]) (rest := []) F (k_X13_finds x 0 (by decide)) (cwV 1 hts (lw_V q1238 q1240 qs47 q107 q1241) rfl rfl rfl (by decide +kernel) ⟨Nat.le_of_ble_eq_true rfl, Nat.le_of_ble_eq_true rfl⟩) hI hK (hw.recv hI hK (mf_main) rfl) rfl hl.1 rfl (Nat.le_of_ble_eq_true rfl) dX13_copy_116 ⟨Nat.le_of_ble_eq_true rfl, Nat.le_of_ble_eq_true rfl⟩) hS (fun H1 locs1 hI hS => ?_)
              obtain ⟨x3, ex3⟩ : ∃ z, z = (fndM x 0) := ⟨_, rfl⟩
              rw [← ex3] at hI
              exact W.iret hx hb hr (fun t ht _ => ⟨rI (by rw [cp_s hs hs2 (shM_s esz (by omega) c_26) (shM_s esz2 (by omega) c_35)]; simp only [if_pos ((bit_ne hbit hbit2 c_26 c_35).mpr c_56)]; first | (simp only [if_neg c_76, if_neg c_66, if_neg c_71, if_neg (cp_ng c_93 (by omega) c_66 c_76), if_pos c_111]; rfl) | (simp only [if_neg c_76, if_neg c_66, if_neg c_71, if_pos c_93]; rfl) | (simp only [if_pos c_76, if_neg c_66, if_neg c_71]; rfl) | (simp only [if_neg c_66, if_pos c_71, ite_self]; rfl) | (simp only [if_pos c_66, ite_self]; rfl)), ⟨x3, (by rw [cp_s hs hs2 (shM_s esz (by omega) c_26) (shM_s esz2 (by omega) c_35), ex3]; simp only [if_pos ((bit_ne hbit hbit2 c_26 c_35).mpr c_56)]; first | (simp only [if_neg c_76, if_neg c_66, if_neg c_71, if_neg (cp_ng c_93 (by omega) c_66 c_76), if_pos c_111]; exact jm_rfl) | (simp only [if_neg c_76, if_neg c_66, if_neg c_71, if_pos c_93]; exact jm_rfl) | (simp only [if_pos c_76, if_neg c_66, if_neg c_71]; exact jm_rfl) | (simp only [if_neg c_66, if_pos c_71, ite_self]; exact jm_rfl) | (simp only [if_pos c_66, ite_self]; exact jm_rfl)), by rw [ht]; exact hI⟩, hS.F ht⟩) hS.2.2 dX13_copy_119
            · skip
              refine lv_iload hx hb dX13_copy_69 (lv_at hl 4 rfl) ?_
              refine lv_if_lt (tgt := 114) hx hb dX13_copy_71 (by decide) (fun c_71 => ?_) (fun c_71 => ?_)
              · skip
                refine lv_aload_n hx hb dX13_copy_114 rfl (lv_at hl 0 rfl) ?_
                refine lv_iconst (v := 0) hx hb dX13_copy_115 (by decide) ?_
                refine c_m (k_V (As := [.int 0]) (rest := []) F (k_X13_finds x 0 (by decide)) (cwV 1 hts (lw_V q1238 q1240 qs47 q107 q1241) rfl rfl rfl (by decide +kernel) ⟨Nat.le_of_ble_eq_true rfl, Nat.le_of_ble_eq_true rfl⟩) hI hK (hw.recv hI hK (mf_main) rfl) rfl hl.1 rfl (Nat.le_of_ble_eq_true rfl) dX13_copy_116 ⟨Nat.le_of_ble_eq_true rfl, Nat.le_of_ble_eq_true rfl⟩) hS (fun H1 locs1 hI hS => ?_)
                obtain ⟨x4, ex4⟩ : ∃ z, z = (fndM x 0) := ⟨_, rfl⟩
                rw [← ex4] at hI
                exact W.iret hx hb hr (fun t ht _ => ⟨rI (by rw [cp_s hs hs2 (shM_s esz (by omega) c_26) (shM_s esz2 (by omega) c_35)]; simp only [if_pos ((bit_ne hbit hbit2 c_26 c_35).mpr c_56)]; first | (simp only [if_neg c_76, if_neg c_66, if_neg c_71, if_neg (cp_ng c_93 (by omega) c_66 c_76), if_pos c_111]; rfl) | (simp only [if_neg c_76, if_neg c_66, if_neg c_71, if_pos c_93]; rfl) | (simp only [if_pos c_76, if_neg c_66, if_neg c_71]; rfl) | (simp only [if_neg c_66, if_pos c_71, ite_self]; rfl) | (simp only [if_pos c_66, ite_self]; rfl)), ⟨x4, (by rw [cp_s hs hs2 (shM_s esz (by omega) c_26) (shM_s esz2 (by omega) c_35), ex4]; simp only [if_pos ((bit_ne hbit hbit2 c_26 c_35).mpr c_56)]; first | (simp only [if_neg c_76, if_neg c_66, if_neg c_71, if_neg (cp_ng c_93 (by omega) c_66 c_76), if_pos c_111]; exact jm_rfl) | (simp only [if_neg c_76, if_neg c_66, if_neg c_71, if_pos c_93]; exact jm_rfl) | (simp only [if_pos c_76, if_neg c_66, if_neg c_71]; exact jm_rfl) | (simp only [if_neg c_66, if_pos c_71, ite_self]; exact jm_rfl) | (simp only [if_pos c_66, ite_self]; exact jm_rfl)), by rw [ht]; exact hI⟩, hS.F ht⟩) hS.2.2 dX13_copy_119
              · skip
                refine lv_iload hx hb dX13_copy_74 (lv_at hl 5 rfl) ?_
                refine lv_if_lt (tgt := 114) hx hb dX13_copy_76 (by decide) (fun c_76 => ?_) (fun c_76 => ?_)
                · skip
                  refine lv_aload_n hx hb dX13_copy_114 rfl (lv_at hl 0 rfl) ?_
                  refine lv_iconst (v := 0) hx hb dX13_copy_115 (by decide) ?_
                  refine c_m (k_V (As := [.int 0]) (rest := []) F (k_X13_finds x 0 (by decide)) (cwV 1 hts (lw_V q1238 q1240 qs47 q107 q1241) rfl rfl rfl (by decide +kernel) ⟨Nat.le_of_ble_eq_true rfl, Nat.le_of_ble_eq_true rfl⟩) hI hK (hw.recv hI hK (mf_main) rfl) rfl hl.1 rfl (Nat.le_of_ble_eq_true rfl) dX13_copy_116 ⟨Nat.le_of_ble_eq_true rfl, Nat.le_of_ble_eq_true rfl⟩) hS (fun H1 locs1 hI hS => ?_)
                  obtain ⟨x5, ex5⟩ : ∃ z, z = (fndM x 0) := ⟨_, rfl⟩
                  rw [← ex5] at hI
                  exact W.iret hx hb hr (fun t ht _ => ⟨rI (by rw [cp_s hs hs2 (shM_s esz (by omega) c_26) (shM_s esz2 (by omega) c_35)]; simp only [if_pos ((bit_ne hbit hbit2 c_26 c_35).mpr c_56)]; first | (simp only [if_neg c_76, if_neg c_66, if_neg c_71, if_neg (cp_ng c_93 (by omega) c_66 c_76), if_pos c_111]; rfl) | (simp only [if_neg c_76, if_neg c_66, if_neg c_71, if_pos c_93]; rfl) | (simp only [if_pos c_76, if_neg c_66, if_neg c_71]; rfl) | (simp only [if_neg c_66, if_pos c_71, ite_self]; rfl) | (simp only [if_pos c_66, ite_self]; rfl)), ⟨x5, (by rw [cp_s hs hs2 (shM_s esz (by omega) c_26) (shM_s esz2 (by omega) c_35), ex5]; simp only [if_pos ((bit_ne hbit hbit2 c_26 c_35).mpr c_56)]; first | (simp only [if_neg c_76, if_neg c_66, if_neg c_71, if_neg (cp_ng c_93 (by omega) c_66 c_76), if_pos c_111]; exact jm_rfl) | (simp only [if_neg c_76, if_neg c_66, if_neg c_71, if_pos c_93]; exact jm_rfl) | (simp only [if_pos c_76, if_neg c_66, if_neg c_71]; exact jm_rfl) | (simp only [if_neg c_66, if_pos c_71, ite_self]; exact jm_rfl) | (simp only [if_pos c_66, ite_self]; exact jm_rfl)), by rw [ht]; exact hI⟩, hS.F ht⟩) hS.2.2 dX13_copy_119
                · skip
                  refine lv_iload_n hx hb dX13_copy_79 rfl (lv_at hl 2 rfl) ?_
                  refine lv_i2l (v := (fr : Int32).toInt64) hx hb dX13_copy_80 rfl ?_
                  refine lv_iload hx hb dX13_copy_81 (lv_at hl 5 rfl) ?_
                  refine lv_i2l (v := (n : Int32).toInt64) hx hb dX13_copy_83 rfl ?_
                  refine lv_ladd hx hb dX13_copy_84 ?_
                  refine lv_aload_n hx hb dX13_copy_85 rfl (lv_at hl 0 rfl) ?_
                  refine r_get (C := RX13) (T := TX13) (N := 18) hx hb hts in_X13 hown hK hI (mf_main) rfl 15 (by decide) (hts _ q1179) (fun _ h => h) rfl dX13_copy_86 ?_
                  refine lv_iload_n hx hb dX13_copy_89 rfl (lv_at hl 1 rfl) ?_
                  refine n_iald (k := sn) hx hb hK hI (mf_size) (rfl) (by omega) (by decide) dX13_copy_90 ?_
                  refine lv_i2l (v := ((x.2.1 4 sn) : Int32).toInt64) hx hb dX13_copy_91 rfl ?_
                  refine W.lcmp hx hb dX13_copy_92 ?_
                  refine lv_if_gt (tgt := 114) hx hb dX13_copy_93 (by decide) (fun c_93 => ?_) (fun c_93 => ?_)
                  · skip
                    rw [esz, cp_long (by omega) c_66 c_76] at c_93
                    refine lv_aload_n hx hb dX13_copy_114 rfl (lv_at hl 0 rfl) ?_
                    refine lv_iconst (v := 0) hx hb dX13_copy_115 (by decide) ?_
                    refine c_m (k_V (As := [.int 0]) (rest := []) F (k_X13_finds x 0 (by decide)) (cwV 1 hts (lw_V q1238 q1240 qs47 q107 q1241) rfl rfl rfl (by decide +kernel) ⟨Nat.le_of_ble_eq_true rfl, Nat.le_of_ble_eq_true rfl⟩) hI hK (hw.recv hI hK (mf_main) rfl) rfl hl.1 rfl (Nat.le_of_ble_eq_true rfl) dX13_copy_116 ⟨Nat.le_of_ble_eq_true rfl, Nat.le_of_ble_eq_true rfl⟩) hS (fun H1 locs1 hI hS => ?_)
                    obtain ⟨x6, ex6⟩ : ∃ z, z = (fndM x 0) := ⟨_, rfl⟩
                    rw [← ex6] at hI
                    exact W.iret hx hb hr (fun t ht _ => ⟨rI (by rw [cp_s hs hs2 (shM_s esz (by omega) c_26) (shM_s esz2 (by omega) c_35)]; simp only [if_pos ((bit_ne hbit hbit2 c_26 c_35).mpr c_56)]; first | (simp only [if_neg c_76, if_neg c_66, if_neg c_71, if_neg (cp_ng c_93 (by omega) c_66 c_76), if_pos c_111]; rfl) | (simp only [if_neg c_76, if_neg c_66, if_neg c_71, if_pos c_93]; rfl) | (simp only [if_pos c_76, if_neg c_66, if_neg c_71]; rfl) | (simp only [if_neg c_66, if_pos c_71, ite_self]; rfl) | (simp only [if_pos c_66, ite_self]; rfl)), ⟨x6, (by rw [cp_s hs hs2 (shM_s esz (by omega) c_26) (shM_s esz2 (by omega) c_35), ex6]; simp only [if_pos ((bit_ne hbit hbit2 c_26 c_35).mpr c_56)]; first | (simp only [if_neg c_76, if_neg c_66, if_neg c_71, if_neg (cp_ng c_93 (by omega) c_66 c_76), if_pos c_111]; exact jm_rfl) | (simp only [if_neg c_76, if_neg c_66, if_neg c_71, if_pos c_93]; exact jm_rfl) | (simp only [if_pos c_76, if_neg c_66, if_neg c_71]; exact jm_rfl) | (simp only [if_neg c_66, if_pos c_71, ite_self]; exact jm_rfl) | (simp only [if_pos c_66, ite_self]; exact jm_rfl)), by rw [ht]; exact hI⟩, hS.F ht⟩) hS.2.2 dX13_copy_119
                  · skip
                    rw [esz] at c_93
                    refine lv_iload hx hb dX13_copy_96 (lv_at hl 4 rfl) ?_
                    refine lv_i2l (v := (to : Int32).toInt64) hx hb dX13_copy_98 rfl ?_
                    refine lv_iload hx hb dX13_copy_99 (lv_at hl 5 rfl) ?_
                    refine lv_i2l (v := (n : Int32).toInt64) hx hb dX13_copy_101 rfl ?_
                    refine lv_ladd hx hb dX13_copy_102 ?_
                    refine lv_aload_n hx hb dX13_copy_103 rfl (lv_at hl 0 rfl) ?_
                    refine r_get (C := RX13) (T := TX13) (N := 18) hx hb hts in_X13 hown hK hI (mf_main) rfl 15 (by decide) (hts _ q1179) (fun _ h => h) rfl dX13_copy_104 ?_
                    refine lv_iload_n hx hb dX13_copy_107 rfl (lv_at hl 3 rfl) ?_
                    refine n_iald (k := sn2) hx hb hK hI (mf_size) (rfl) (by omega) (by decide) dX13_copy_108 ?_
                    refine lv_i2l (v := ((x.2.1 4 sn2) : Int32).toInt64) hx hb dX13_copy_109 rfl ?_
                    refine W.lcmp hx hb dX13_copy_110 ?_
                    refine lv_if_le (tgt := 120) hx hb dX13_copy_111 (by decide) (fun c_111 => ?_) (fun c_111 => ?_)
                    · skip
                      have c_111 := Int32.not_lt.mpr c_111
                      rw [esz2] at c_111
                      have hc81 := fun z => c_93 ((cp_long (by omega) c_66 c_76).mpr z)
                      have hc94 := fun z => c_111 ((cp_long (by omega) c_71 c_76).mpr z)
                      obtain ⟨ν, σ, δ, b1, b2, en, efr, eto, h40⟩ := cp_nat (sz := sz) (sz2 := sz2) (by omega) (by omega) c_76 c_66 c_71 hc81 hc94
                      have hB := cp_s (fr := fr) (to := to) (n := n) hs hs2 (shM_s esz (by omega) c_26) (shM_s esz2 (by omega) c_35)
                      simp only [if_pos ((bit_ne hbit hbit2 c_26 c_35).mpr c_56), if_neg c_76, if_neg c_66, if_neg c_71, if_neg hc81, if_neg hc94] at hB
                      subst en
                      subst efr
                      subst eto
                      refine lv_iconst (v := 0) hx hb dX13_copy_120 (by decide) ?_
                      refine lv_istore (lv' := [(6, .int 0), (0, .ref (L 0)), (1, .int (nI sn)), (2, .int (nI σ)), (3, .int (nI sn2)), (4, .int (nI δ)), (5, .int (nI ν))]) hx hb dX13_copy_121 hl (by decide) rfl (fun ls hl => ?_)
                      have lp123 : ∀ (fuel : Nat) (i : Nat), (i ≤ ν) → ν - i < fuel → ∀ (v6 : Int32), v6 = nI i → ∀ (xc123 : mst), xc123 = yrow x 6 (itr (cpS (x.2.1 5) (40 * sn + σ) 0) (x.2.1 6) i) → ∀ (H : Heap) (locs : List Loc), hw D (cfM D L xc123) A H → va_S A s.heap H locs → ∀ (ls : Array Slot), lv_has ls 7 [(0, .ref (L 0)), (1, .int (nI sn)), (2, .int (nI σ)), (3, .int (nI sn2)), (4, .int (nI δ)), (5, .int (nI ν)), (6, .int v6)] → W p l e ({ frames := 2, cells := 0, slots := 0, locals := 45 } : Room) s m ([.ref (L 0), .int (nI sn), .int (nI σ), .int (nI sn2), .int (nI δ), .int (nI ν)] : List Value).toArray below meth c H locs 0 0 (MQ below (jMQ D L (aMP x (a_copy (shMq x) (nI sn) (nI σ) (nI sn2) (nI δ) (nI ν))) A (some (.int (aW (fun _ => (nI ν)) (a_copy (shMq x) (nI sn) (nI σ) (nI sn2) (nI δ) (nI ν)))))) ([.ref (L 0), .int (nI sn), .int (nI σ), .int (nI sn2), .int (nI δ), .int (nI ν)] : List Value).toArray s 0 0 A) (F0 m 123 ls []) := by
                        intro fuel
                        induction fuel with
                        | zero => intro i hi hf; exact absurd hf (Nat.not_lt_zero _)
                        | succ fuel ih123 =>
                          intro i hi hf123 v6 e6  xc123 exc123 H locs hI hS ls hl
                          subst e6
                          have hr5 : xc123.2.1 5 = x.2.1 5 := by rw [exc123]; exact yrow_ne (by decide)
                          refine lv_iload hx hb dX13_copy_123 (lv_at hl 6 rfl) ?_
                          refine lv_iload hx hb dX13_copy_125 (lv_at hl 5 rfl) ?_
                          refine lv_icmp_ge (tgt := 157) hx hb dX13_copy_127 (by decide) (fun c_127 => ?_) (fun c_127 => ?_)
                          · skip
                            have c_127 : ν ≤ i := (nle (a := ν) (b := i) (rfl) (rfl) (by omega) (by omega)).mp c_127
                            refine lv_iconst (v := 0) hx hb dX13_copy_157 (by decide) ?_
                            refine lv_istore (lv' := [(6, .int 0), (0, .ref (L 0)), (1, .int (nI sn)), (2, .int (nI σ)), (3, .int (nI sn2)), (4, .int (nI δ)), (5, .int (nI ν))]) hx hb dX13_copy_158 hl (by decide) rfl (fun ls hl => ?_)
                            have lp160 : ∀ (fuel : Nat) (i2 : Nat), (i2 ≤ ν) → ν - i2 < fuel → ∀ (v6 : Int32), v6 = nI i2 → ∀ (xc160 : mst), xc160 = yrow (yrow x 6 (itr (cpS (x.2.1 5) (40 * sn + σ) 0) (x.2.1 6) ν)) 5 (itr (cpS (x.2.1 5) (40 * sn + σ) (40 * sn2 + δ)) (x.2.1 5) i2) → ∀ (H : Heap) (locs : List Loc), hw D (cfM D L xc160) A H → va_S A s.heap H locs → ∀ (ls : Array Slot), lv_has ls 7 [(0, .ref (L 0)), (1, .int (nI sn)), (2, .int (nI σ)), (3, .int (nI sn2)), (4, .int (nI δ)), (5, .int (nI ν)), (6, .int v6)] → W p l e ({ frames := 2, cells := 0, slots := 0, locals := 45 } : Room) s m ([.ref (L 0), .int (nI sn), .int (nI σ), .int (nI sn2), .int (nI δ), .int (nI ν)] : List Value).toArray below meth c H locs 0 0 (MQ below (jMQ D L (aMP x (a_copy (shMq x) (nI sn) (nI σ) (nI sn2) (nI δ) (nI ν))) A (some (.int (aW (fun _ => (nI ν)) (a_copy (shMq x) (nI sn) (nI σ) (nI sn2) (nI δ) (nI ν)))))) ([.ref (L 0), .int (nI sn), .int (nI σ), .int (nI sn2), .int (nI δ), .int (nI ν)] : List Value).toArray s 0 0 A) (F0 m 160 ls []) := by
                              intro fuel
                              induction fuel with
                              | zero => intro i2 hi2 hf; exact absurd hf (Nat.not_lt_zero _)
                              | succ fuel ih160 =>
                                intro i2 hi2 hf160 v6 e6  xc160 exc160 H locs hI hS ls hl
                                subst e6
                                refine lv_iload hx hb dX13_copy_160 (lv_at hl 6 rfl) ?_
                                refine lv_iload hx hb dX13_copy_162 (lv_at hl 5 rfl) ?_
                                refine lv_icmp_ge (tgt := 195) hx hb dX13_copy_164 (by decide) (fun c_164 => ?_) (fun c_164 => ?_)
                                · skip
                                  have c_164 : ν ≤ i2 := (nle (a := ν) (b := i2) (rfl) (rfl) (by omega) (by omega)).mp c_164
                                  refine lv_iload hx hb dX13_copy_195 (lv_at hl 5 rfl) ?_
                                  exact W.iret hx hb hr (fun t ht _ => ⟨rI (by rw [hB]; rfl), ⟨xc160, (by rw [hB, exc160, aMP, nI_clamp (by omega), nI_clamp (by omega), nI_clamp (by omega), nI_clamp (by omega), nI_clamp (by omega), show i2 = ν by omega]; exact jm_56 _ _ _), by rw [ht]; exact hI⟩, hS.F ht⟩) hS.2.2 dX13_copy_197
                                · skip
                                  have c_164 : ¬ ν ≤ i2 := fun z => c_164 ((nle (a := ν) (b := i2) (rfl) (rfl) (by omega) (by omega)).mpr z)
                                  refine lv_aload_n hx hb dX13_copy_167 rfl (lv_at hl 0 rfl) ?_
                                  refine r_get (C := RX13) (T := TX13) (N := 18) hx hb hts in_X13 hown hK hI (mf_main) rfl 16 (by decide) (hts _ q1180) (fun _ h => h) rfl dX13_copy_168 ?_
                                  refine lv_bipush (v := 40) hx hb dX13_copy_171 (by decide) ?_
                                  refine lv_iload_n hx hb dX13_copy_173 rfl (lv_at hl 3 rfl) ?_
                                  refine lv_imul hx hb dX13_copy_174 ?_
                                  refine lv_iload hx hb dX13_copy_175 (lv_at hl 4 rfl) ?_
                                  refine lv_iadd hx hb dX13_copy_177 ?_
                                  refine lv_iload hx hb dX13_copy_178 (lv_at hl 6 rfl) ?_
                                  refine lv_iadd hx hb dX13_copy_180 ?_
                                  refine lv_aload_n hx hb dX13_copy_181 rfl (lv_at hl 0 rfl) ?_
                                  refine r_get (C := RX13) (T := TX13) (N := 18) hx hb hts in_X13 hown hK hI (mf_main) rfl 17 (by decide) (hts _ q1181) (fun _ h => h) rfl dX13_copy_182 ?_
                                  refine lv_iload hx hb dX13_copy_185 (lv_at hl 6 rfl) ?_
                                  refine n_iald (k := i2) hx hb hK hI (mf_pass) (rfl) (by omega) (by decide) dX13_copy_187 ?_
                                  have hr6 : xc160.2.1 6 i2 = x.2.1 5 (40 * sn + σ + i2) := by rw [exc160, yrow_ne (by decide), yrow_at]; exact cp_itr _ _ _ (by omega)
                                  obtain ⟨x7, ex7⟩ : ∃ z, z = yr xc160 5 (((40 * sn2) + δ) + i2) (xc160.2.1 6 i2) := ⟨_, rfl⟩
                                  refine n_iast (cf' := cfM D L x7) (k := (((40 * sn2) + δ) + i2)) hx hb hK hI hS (mf_num) (na_add (na_add (na_mul (rfl) (rfl)) (rfl)) (rfl)) (by omega) (by decide) (by rw [ex7]; exact ms_r (r := 5) (by decide) (by decide) mf_num) dX13_copy_188 (fun H1 locs1 hI hS => ?_)
                                  refine lv_iinc (v := (nI (i2 + 1))) (lv' := [(6, .int (nI (i2 + 1))), (0, .ref (L 0)), (1, .int (nI sn)), (2, .int (nI σ)), (3, .int (nI sn2)), (4, .int (nI δ)), (5, .int (nI ν))]) hx hb dX13_copy_189 hl (k := 6) rfl (nI_1 _) (by decide) rfl (fun ls hl => ?_)
                                  refine lv_goto (tgt := 160) hx hb dX13_copy_192 (by decide) ?_
                                  exact ih160 (i2 + 1) (by omega) (by omega) (nI (i2 + 1)) (rfl) x7 (by rw [ex7, hr6, exc160, yr_row]; rfl) _ _ hI hS ls (lv_sub hl [1, 2, 3, 4, 5, 6, 0] rfl)
                            exact lp160 (_ + 1) (0) (Nat.zero_le _) (Nat.lt_succ_self _) 0 (rfl) xc123 (by rw [exc123, show i = ν by omega]; exact (yrow_self (yrow x 6 _) 5).symm) _ _ hI hS ls (lv_sub hl [1, 2, 3, 4, 5, 6, 0] rfl)
                          · skip
                            have c_127 : ¬ ν ≤ i := fun z => c_127 ((nle (a := ν) (b := i) (rfl) (rfl) (by omega) (by omega)).mpr z)
                            refine lv_aload_n hx hb dX13_copy_130 rfl (lv_at hl 0 rfl) ?_
                            refine r_get (C := RX13) (T := TX13) (N := 18) hx hb hts in_X13 hown hK hI (mf_main) rfl 17 (by decide) (hts _ q1181) (fun _ h => h) rfl dX13_copy_131 ?_
                            refine lv_iload hx hb dX13_copy_134 (lv_at hl 6 rfl) ?_
                            refine lv_aload_n hx hb dX13_copy_136 rfl (lv_at hl 0 rfl) ?_
                            refine r_get (C := RX13) (T := TX13) (N := 18) hx hb hts in_X13 hown hK hI (mf_main) rfl 16 (by decide) (hts _ q1180) (fun _ h => h) rfl dX13_copy_137 ?_
                            refine lv_bipush (v := 40) hx hb dX13_copy_140 (by decide) ?_
                            refine lv_iload_n hx hb dX13_copy_142 rfl (lv_at hl 1 rfl) ?_
                            refine lv_imul hx hb dX13_copy_143 ?_
                            refine lv_iload_n hx hb dX13_copy_144 rfl (lv_at hl 2 rfl) ?_
                            refine lv_iadd hx hb dX13_copy_145 ?_
                            refine lv_iload hx hb dX13_copy_146 (lv_at hl 6 rfl) ?_
                            refine lv_iadd hx hb dX13_copy_148 ?_
                            refine n_iald (k := (((40 * sn) + σ) + i)) hx hb hK hI (mf_num) (na_add (na_add (na_mul (rfl) (rfl)) (rfl)) (rfl)) (by omega) (by decide) dX13_copy_149 ?_
                            obtain ⟨x8, ex8⟩ : ∃ z, z = yr xc123 6 i (xc123.2.1 5 (((40 * sn) + σ) + i)) := ⟨_, rfl⟩
                            refine n_iast (cf' := cfM D L x8) (k := i) hx hb hK hI hS (mf_pass) (rfl) (by omega) (by decide) (by rw [ex8]; exact ms_r (r := 6) (by decide) (by decide) mf_pass) dX13_copy_150 (fun H1 locs1 hI hS => ?_)
                            refine lv_iinc (v := (nI (i + 1))) (lv' := [(6, .int (nI (i + 1))), (0, .ref (L 0)), (1, .int (nI sn)), (2, .int (nI σ)), (3, .int (nI sn2)), (4, .int (nI δ)), (5, .int (nI ν))]) hx hb dX13_copy_151 hl (k := 6) rfl (nI_1 _) (by decide) rfl (fun ls hl => ?_)
                            refine lv_goto (tgt := 123) hx hb dX13_copy_154 (by decide) ?_
                            exact ih123 (i + 1) (by omega) (by omega) (nI (i + 1)) (rfl) x8 (by rw [ex8, hr5, exc123, yr_row]; rw [itr_s, cpS, Nat.zero_add]) _ _ hI hS ls (lv_sub hl [1, 2, 3, 4, 5, 6, 0] rfl)
                      exact lp123 (_ + 1) (0) (Nat.zero_le _) (Nat.lt_succ_self _) 0 (rfl) x ((yrow_self _ _).symm) _ _ hI hS ls (lv_sub hl [1, 2, 3, 4, 5, 6, 0] rfl)
                    · skip
                      have c_111 := Int32.not_le.mp c_111
                      rw [esz2, cp_long (by omega) c_71 c_76] at c_111
                      refine lv_aload_n hx hb dX13_copy_114 rfl (lv_at hl 0 rfl) ?_
                      refine lv_iconst (v := 0) hx hb dX13_copy_115 (by decide) ?_
                      refine c_m (k_V (As := [.int 0]) (rest := []) F (k_X13_finds x 0 (by decide)) (cwV 1 hts (lw_V q1238 q1240 qs47 q107 q1241) rfl rfl rfl (by decide +kernel) ⟨Nat.le_of_ble_eq_true rfl, Nat.le_of_ble_eq_true rfl⟩) hI hK (hw.recv hI hK (mf_main) rfl) rfl hl.1 rfl (Nat.le_of_ble_eq_true rfl) dX13_copy_116 ⟨Nat.le_of_ble_eq_true rfl, Nat.le_of_ble_eq_true rfl⟩) hS (fun H1 locs1 hI hS => ?_)
                      obtain ⟨x9, ex9⟩ : ∃ z, z = (fndM x 0) := ⟨_, rfl⟩
                      rw [← ex9] at hI
                      exact W.iret hx hb hr (fun t ht _ => ⟨rI (by rw [cp_s hs hs2 (shM_s esz (by omega) c_26) (shM_s esz2 (by omega) c_35)]; simp only [if_pos ((bit_ne hbit hbit2 c_26 c_35).mpr c_56)]; first | (simp only [if_neg c_76, if_neg c_66, if_neg c_71, if_neg (cp_ng c_93 (by omega) c_66 c_76), if_pos c_111]; rfl) | (simp only [if_neg c_76, if_neg c_66, if_neg c_71, if_pos c_93]; rfl) | (simp only [if_pos c_76, if_neg c_66, if_neg c_71]; rfl) | (simp only [if_neg c_66, if_pos c_71, ite_self]; rfl) | (simp only [if_pos c_66, ite_self]; rfl)), ⟨x9, (by rw [cp_s hs hs2 (shM_s esz (by omega) c_26) (shM_s esz2 (by omega) c_35), ex9]; simp only [if_pos ((bit_ne hbit hbit2 c_26 c_35).mpr c_56)]; first | (simp only [if_neg c_76, if_neg c_66, if_neg c_71, if_neg (cp_ng c_93 (by omega) c_66 c_76), if_pos c_111]; exact jm_rfl) | (simp only [if_neg c_76, if_neg c_66, if_neg c_71, if_pos c_93]; exact jm_rfl) | (simp only [if_pos c_76, if_neg c_66, if_neg c_71]; exact jm_rfl) | (simp only [if_neg c_66, if_pos c_71, ite_self]; exact jm_rfl) | (simp only [if_pos c_66, ite_self]; exact jm_rfl)), by rw [ht]; exact hI⟩, hS.F ht⟩) hS.2.2 dX13_copy_119
          · skip
            refine lv_aload_n hx hb dX13_copy_59 rfl (lv_at hl 0 rfl) ?_
            refine lv_iconst (v := 2) hx hb dX13_copy_60 (by decide) ?_
            refine c_m (k_V (As := [.int 2]) (rest := []) F (k_X13_finds x 2 (by decide)) (cwV 1 hts (lw_V q1238 q1240 qs47 q107 q1241) rfl rfl rfl (by decide +kernel) ⟨Nat.le_of_ble_eq_true rfl, Nat.le_of_ble_eq_true rfl⟩) hI hK (hw.recv hI hK (mf_main) rfl) rfl hl.1 rfl (Nat.le_of_ble_eq_true rfl) dX13_copy_61 ⟨Nat.le_of_ble_eq_true rfl, Nat.le_of_ble_eq_true rfl⟩) hS (fun H1 locs1 hI hS => ?_)
            obtain ⟨x10, ex10⟩ : ∃ z, z = (fndM x 2) := ⟨_, rfl⟩
            rw [← ex10] at hI
            exact W.iret hx hb hr (fun t ht _ => ⟨rI (by rw [cp_s hs hs2 (shM_s esz (by omega) c_26) (shM_s esz2 (by omega) c_35)]; simp only [if_neg (fun z => c_56 ((bit_ne hbit hbit2 c_26 c_35).mp z))]; rfl), ⟨x10, (by rw [cp_s hs hs2 (shM_s esz (by omega) c_26) (shM_s esz2 (by omega) c_35), ex10]; simp only [if_neg (fun z => c_56 ((bit_ne hbit hbit2 c_26 c_35).mp z))]; exact jm_rfl), by rw [ht]; exact hI⟩, hS.F ht⟩) hS.2.2 dX13_copy_64
        · skip
          refine lv_aload_n hx hb dX13_copy_38 rfl (lv_at hl 0 rfl) ?_
          refine lv_iconst (v := 5) hx hb dX13_copy_39 (by decide) ?_
          refine c_m (k_V (As := [.int 5]) (rest := []) F (k_X13_finds x 5 (by decide)) (cwV 1 hts (lw_V q1238 q1240 qs47 q107 q1241) rfl rfl rfl (by decide +kernel) ⟨Nat.le_of_ble_eq_true rfl, Nat.le_of_ble_eq_true rfl⟩) hI hK (hw.recv hI hK (mf_main) rfl) rfl hl.1 rfl (Nat.le_of_ble_eq_true rfl) dX13_copy_40 ⟨Nat.le_of_ble_eq_true rfl, Nat.le_of_ble_eq_true rfl⟩) hS (fun H1 locs1 hI hS => ?_)
          obtain ⟨x11, ex11⟩ : ∃ z, z = (fndM x 5) := ⟨_, rfl⟩
          rw [← ex11] at hI
          exact W.iret hx hb hr (fun t ht _ => ⟨rI (by rw [cp_5 hs hs2 (by first | exact Or.inl (shM_n c_26) | exact Or.inr (shM_n c_35))]; rfl), ⟨x11, (by rw [cp_5 hs hs2 (by first | exact Or.inl (shM_n c_26) | exact Or.inr (shM_n c_35)), ex11]; exact jm_rfl), by rw [ht]; exact hI⟩, hS.F ht⟩) hS.2.2 dX13_copy_43
    · skip
      refine lv_aload_n hx hb dX13_copy_14 rfl (lv_at hl 0 rfl) ?_
      refine lv_iconst (v := 0) hx hb dX13_copy_15 (by decide) ?_
      refine c_m (k_V (As := [.int 0]) (rest := []) F (k_X13_finds x 0 (by decide)) (cwV 1 hts (lw_V q1238 q1240 qs47 q107 q1241) rfl rfl rfl (by decide +kernel) ⟨Nat.le_of_ble_eq_true rfl, Nat.le_of_ble_eq_true rfl⟩) hI hK (hw.recv hI hK (mf_main) rfl) rfl hl.1 rfl (Nat.le_of_ble_eq_true rfl) dX13_copy_16 ⟨Nat.le_of_ble_eq_true rfl, Nat.le_of_ble_eq_true rfl⟩) hS (fun H1 locs1 hI hS => ?_)
      obtain ⟨x12, ex12⟩ : ∃ z, z = (fndM x 0) := ⟨_, rfl⟩
      rw [← ex12] at hI
      exact W.iret hx hb hr (fun t ht _ => ⟨rI (by first | (rw [cp_0a c_4]; rfl) | (rw [cp_0b c_11]; rfl)), ⟨x12, (by first | (rw [cp_0a c_4, ex12]; exact jm_rfl) | (rw [cp_0b c_11, ex12]; exact jm_rfl)), by rw [ht]; exact hI⟩, hS.F ht⟩) hS.2.2 dX13_copy_19
set_option maxHeartbeats 4000000 in
theorem k_X13_fitting {l : Launch} {D : va_G} {L : Nat → Nat} {A : Nat → Prop} (x : mst) (hO : wOk (x.1 0)) (hd : isN (x.1 0 1 2) 10000) (sn sz : Nat) (hs : sn < 4) (hsz : sz < 41) (esz : x.2.1 4 sn = nI sz) (k r most : Nat) (hk : k < 8) (hrm : (r = 0 ∧ most ≤ 6) ∨ (r = 1 ∧ most ≤ 5)) : Met l yX13_fitting (ws_ yX13_fitting cX13_fitting 10 (some .int)) ({ frames := 6, cells := 0, slots := 0, locals := 136 } : Room) (va_Pc [.ref (L 0), .int (nI sn), .int (nI k), .int (nI r), .int (nI most)] (pI D (cfM D L x) A)) (jMQ D L x A (some (.int (ftI (x.1 0) k r (most + 1) (tOf (x.2.1 3 sn), sz, fun i => x.2.1 5 (40 * sn + i)))))) 0 0 A := by
  refine met_I (by decide) rfl (Nat.le_of_ble_eq_true rfl) ?_
  intro p e s m below meth c ls hx hb hr hml hown hts hlocks hl hI hK
  have F : CallFix p m c cX13_fitting 10 s _ lw_all RX13 := ⟨hx, hb, hml, hown, hts⟩
  have hl : lv_has ls 10 [(0, .ref (L 0)), (1, .int (nI sn)), (2, .int (nI k)), (3, .int (nI r)), (4, .int (nI most))] := hl
  have hS : va_S A s.heap s.heap [] := va_S.rf
  refine lv_aload_n hx hb dX13_fitting_0 rfl (lv_at hl 0 rfl) ?_
  refine r_get (C := RX13) (T := TX13) (N := 18) hx hb hts in_X13 hown hK hI (mf_main) rfl 0 (by decide) (hts _ q1164) (fun _ h => h) rfl dX13_fitting_1 ?_
  refine lv_aload_n hx hb dX13_fitting_4 rfl (lv_at hl 0 rfl) ?_
  refine r_get (C := RX13) (T := TX13) (N := 18) hx hb hts in_X13 hown hK hI (mf_main) rfl 2 (by decide) (hts _ q1166) (fun _ h => h) rfl dX13_fitting_5 ?_
  refine c_m (k_SI (As := [.ref (L 1), .ref (L 3)]) (rest := []) F (k_X13_copies (cf' := cfM D L (ys x 2 (x.1 0))) mf_d mf_aside (by decide) (ms_wn (w := 2) (by decide) (by decide) rfl)) (va_cwS 2 hts (lw_S q1391 q1392 q107 q1393) rfl rfl rfl (by decide +kernel) ⟨Nat.le_of_ble_eq_true rfl, Nat.le_of_ble_eq_true rfl⟩) hI hK rfl hl.1 rfl (Nat.le_of_ble_eq_true rfl) dX13_fitting_8 ⟨Nat.le_of_ble_eq_true rfl, Nat.le_of_ble_eq_true rfl⟩) hS (fun H1 locs1 hI hS => ?_)
  obtain ⟨x1, ex1⟩ : ∃ z, z = ys x 2 (x.1 0) := ⟨_, rfl⟩
  rw [← ex1] at hI
  refine lv_iconst (v := 0) hx hb dX13_fitting_11 (by decide) ?_
  refine lv_istore (lv' := [(5, .int 0), (0, .ref (L 0)), (1, .int (nI sn)), (2, .int (nI k)), (3, .int (nI r)), (4, .int (nI most))]) hx hb dX13_fitting_12 hl (by decide) rfl (fun ls hl => ?_)
  refine lv_iconst (v := 0) hx hb dX13_fitting_14 (by decide) ?_
  refine lv_istore (lv' := [(6, .int 0), (5, .int 0), (0, .ref (L 0)), (1, .int (nI sn)), (2, .int (nI k)), (3, .int (nI r)), (4, .int (nI most))]) hx hb dX13_fitting_15 hl (by decide) rfl (fun ls hl => ?_)
  have lp17 : ∀ (fuel : Nat) (i : Nat), (i ≤ most + 1) → most + 1 - i < fuel → ∀ (v5 : Int32) (v6 : Int32), v5 = (itr (ftS (x.1 0) k r (tOf (x.2.1 3 sn), sz, fun i => x.2.1 5 (40 * sn + i))) 0 i) → v6 = nI i → ∀ (xc17 : mst), xc17 = ys (ys x 2 (x.1 0)) 0 (x.1 0) → ∀ (H : Heap) (locs : List Loc), hw D (cfM D L xc17) A H → va_S A s.heap H locs → ∀ (ls : Array Slot), lv_has ls 10 [(0, .ref (L 0)), (1, .int (nI sn)), (2, .int (nI k)), (3, .int (nI r)), (4, .int (nI most)), (5, .int v5), (6, .int v6)] → W p l e ({ frames := 6, cells := 0, slots := 0, locals := 136 } : Room) s m ([.ref (L 0), .int (nI sn), .int (nI k), .int (nI r), .int (nI most)] : List Value).toArray below meth c H locs 0 0 (MQ below (jMQ D L x A (some (.int (ftI (x.1 0) k r (most + 1) (tOf (x.2.1 3 sn), sz, fun i => x.2.1 5 (40 * sn + i)))))) ([.ref (L 0), .int (nI sn), .int (nI k), .int (nI r), .int (nI most)] : List Value).toArray s 0 0 A) (F0 m 17 ls []) := by
    intro fuel
    induction fuel with
    | zero => intro i hi hf; exact absurd hf (Nat.not_lt_zero _)
    | succ fuel ih17 =>
      intro i hi hf17 v5 v6 e5 e6  xc17 exc17 H locs hI hS ls hl
      subst e5 e6
      refine lv_iload hx hb dX13_fitting_17 (lv_at hl 6 rfl) ?_
      refine lv_iload hx hb dX13_fitting_19 (lv_at hl 4 rfl) ?_
      refine lv_icmp_gt (tgt := 137) hx hb dX13_fitting_21 (by decide) (fun c_21 => ?_) (fun c_21 => ?_)
      · skip
        have c_21 : most < i := (nlt (a := most) (b := i) (rfl) (rfl) (by omega) (by omega)).mp c_21
        refine lv_iload hx hb dX13_fitting_137 (lv_at hl 5 rfl) ?_
        exact W.iret hx hb hr (fun t ht _ => ⟨rI (by rw [ftI, show i = most + 1 by omega]), ⟨xc17, (by rw [exc17]; exact jm_ag _ _), by rw [ht]; exact hI⟩, hS.F ht⟩) hS.2.2 dX13_fitting_139
      · skip
        have c_21 : ¬ most < i := fun z => c_21 ((nlt (a := most) (b := i) (rfl) (rfl) (by omega) (by omega)).mpr z)
        refine lv_aload_n hx hb dX13_fitting_24 rfl (lv_at hl 0 rfl) ?_
        refine lv_iload_n hx hb dX13_fitting_25 rfl (lv_at hl 2 rfl) ?_
        refine lv_iload_n hx hb dX13_fitting_26 rfl (lv_at hl 3 rfl) ?_
        refine lv_iload hx hb dX13_fitting_27 (lv_at hl 6 rfl) ?_
        refine c_m (k_V (As := [.int (nI k), .int (nI r), .int (nI i)]) (rest := []) F (k_X13_sets xc17 (nI k) (nI r) k r (nI i) (by omega) (by omega) rfl rfl) (cwV 3 hts (lw_V q1281 q1283 qs54 q107 q1284) rfl rfl rfl (by decide +kernel) ⟨Nat.le_of_ble_eq_true rfl, Nat.le_of_ble_eq_true rfl⟩) hI hK (hw.recv hI hK (mf_main) rfl) rfl hl.1 rfl (Nat.le_of_ble_eq_true rfl) dX13_fitting_29 ⟨Nat.le_of_ble_eq_true rfl, Nat.le_of_ble_eq_true rfl⟩) hS (fun H1 locs1 hI hS => ?_)
        obtain ⟨x2, ex2⟩ : ∃ z, z = ys xc17 0 (u2 (xc17.1 0) (2 + r) k (nI i)) := ⟨_, rfl⟩
        rw [← ex2] at hI
        refine lv_iconst (v := 1) hx hb dX13_fitting_32 (by decide) ?_
        refine lv_istore (lv' := [(7, .int 1), (0, .ref (L 0)), (1, .int (nI sn)), (2, .int (nI k)), (3, .int (nI r)), (4, .int (nI most)), (5, .int (itr (ftS (x.1 0) k r (tOf (x.2.1 3 sn), sz, fun i => x.2.1 5 (40 * sn + i))) 0 i)), (6, .int (nI i))]) hx hb dX13_fitting_33 hl (by decide) rfl (fun ls hl => ?_)
        refine lv_iconst (v := 0) hx hb dX13_fitting_35 (by decide) ?_
        refine lv_istore (lv' := [(8, .int 0), (7, .int 1), (0, .ref (L 0)), (1, .int (nI sn)), (2, .int (nI k)), (3, .int (nI r)), (4, .int (nI most)), (5, .int (itr (ftS (x.1 0) k r (tOf (x.2.1 3 sn), sz, fun i => x.2.1 5 (40 * sn + i))) 0 i)), (6, .int (nI i))]) hx hb dX13_fitting_36 hl (by decide) rfl (fun ls hl => ?_)
        have lp38 : ∀ (fuel : Nat) (j : Nat), (j ≤ sz) → sz - j < fuel → ∀ (v7 : Int32) (v8 : Int32), v7 = (itr (wsoS (u2 (x.1 0) (2 + r) k (nI i)) k (tOf (x.2.1 3 sn), sz, fun i => x.2.1 5 (40 * sn + i))) 1 j) → v8 = nI j → ∀ (xc38 : mst), xc38 = ys (ys x 2 (x.1 0)) 0 (psn (u2 (x.1 0) (2 + r) k (nI i)) j) → ∀ (H : Heap) (locs : List Loc), hw D (cfM D L xc38) A H → va_S A s.heap H locs → ∀ (ls : Array Slot), lv_has ls 10 [(0, .ref (L 0)), (1, .int (nI sn)), (2, .int (nI k)), (3, .int (nI r)), (4, .int (nI most)), (5, .int (itr (ftS (x.1 0) k r (tOf (x.2.1 3 sn), sz, fun i => x.2.1 5 (40 * sn + i))) 0 i)), (6, .int (nI i)), (7, .int v7), (8, .int v8)] → W p l e ({ frames := 6, cells := 0, slots := 0, locals := 136 } : Room) s m ([.ref (L 0), .int (nI sn), .int (nI k), .int (nI r), .int (nI most)] : List Value).toArray below meth c H locs 0 0 (MQ below (jMQ D L x A (some (.int (ftI (x.1 0) k r (most + 1) (tOf (x.2.1 3 sn), sz, fun i => x.2.1 5 (40 * sn + i)))))) ([.ref (L 0), .int (nI sn), .int (nI k), .int (nI r), .int (nI most)] : List Value).toArray s 0 0 A) (F0 m 38 ls []) := by
          intro fuel
          induction fuel with
          | zero => intro j hj hf; exact absurd hf (Nat.not_lt_zero _)
          | succ fuel ih38 =>
            intro j hj hf38 v7 v8 e7 e8  xc38 exc38 H locs hI hS ls hl
            subst e7 e8
            have hO0 : wOk (u2 (x.1 0) (2 + r) k (nI i)) := wOk_mr (many := most + 1) hO (by omega) (by omega)
            have hd0 : isN (u2 (x.1 0) (2 + r) k (nI i) 1 2) 10000 := by rw [u2_ne (by omega)]; exact hd
            have hO_xc38 : wOk (xc38.1 0) := by rw [exc38, ys_at]; exact wOk_psn hO0 hd0 j (by omega)
            have hd_xc38 : isN (xc38.1 0 1 2) 99999 := by rw [exc38, ys_at]; exact isN_psn hd0 (by omega)
            have hf : xc38.1 0 = psn (u2 (x.1 0) (2 + r) k (nI i)) j := by rw [exc38, ys_at]
            have hq5_xc38 : xc38.2.1 5 = x.2.1 5 := by rw [exc38]; (try rfl)
            have hq4_xc38 : xc38.2.1 4 sn = nI sz := by rw [exc38]; exact esz
            refine lv_iload hx hb dX13_fitting_38 (lv_at hl 8 rfl) ?_
            refine lv_aload_n hx hb dX13_fitting_40 rfl (lv_at hl 0 rfl) ?_
            refine r_get (C := RX13) (T := TX13) (N := 18) hx hb hts in_X13 hown hK hI (mf_main) rfl 15 (by decide) (hts _ q1179) (fun _ h => h) rfl dX13_fitting_41 ?_
            refine lv_iload_n hx hb dX13_fitting_44 rfl (lv_at hl 1 rfl) ?_
            refine n_iald (k := sn) hx hb hK hI (mf_size) (rfl) (by omega) (by decide) dX13_fitting_45 ?_
            refine lv_icmp_ge (tgt := 102) hx hb dX13_fitting_46 (by decide) (fun c_46 => ?_) (fun c_46 => ?_)
            · skip
              have c_46 : sz ≤ j := (nle (a := sz) (b := j) (hq4_xc38) (rfl) (by omega) (by omega)).mp c_46
              have hwe := ws_end (f := u2 (x.1 0) (2 + r) k (nI i)) (k := k) (z := (tOf (x.2.1 3 sn), sz, fun i => x.2.1 5 (40 * sn + i))) (i := j) hj (by first | (left; exact c_51) | (right; show sz ≤ j; omega))
              refine lv_aload_n hx hb dX13_fitting_102 rfl (lv_at hl 0 rfl) ?_
              refine r_get (C := RX13) (T := TX13) (N := 18) hx hb hts in_X13 hown hK hI (mf_main) rfl 2 (by decide) (hts _ q1166) (fun _ h => h) rfl dX13_fitting_103 ?_
              refine lv_aload_n hx hb dX13_fitting_106 rfl (lv_at hl 0 rfl) ?_
              refine r_get (C := RX13) (T := TX13) (N := 18) hx hb hts in_X13 hown hK hI (mf_main) rfl 0 (by decide) (hts _ q1164) (fun _ h => h) rfl dX13_fitting_107 ?_
              refine c_m (k_SI (As := [.ref (L 3), .ref (L 1)]) (rest := []) F (k_X13_copies (cf' := cfM D L (ys xc38 0 (u2 (xc38.1 2) 1 1 (xc38.1 0 1 1)))) mf_aside mf_d (by decide) (ms_w (w := 0) (by decide) (mu_gone _ _) (by rw [u2_at, if_pos ⟨rfl, rfl⟩]))) (va_cwS 2 hts (lw_S q1391 q1392 q107 q1393) rfl rfl rfl (by decide +kernel) ⟨Nat.le_of_ble_eq_true rfl, Nat.le_of_ble_eq_true rfl⟩) hI hK rfl hl.1 rfl (Nat.le_of_ble_eq_true rfl) dX13_fitting_110 ⟨Nat.le_of_ble_eq_true rfl, Nat.le_of_ble_eq_true rfl⟩) hS (fun H1 locs1 hI hS => ?_)
              obtain ⟨x3, ex3⟩ : ∃ z, z = ys xc38 0 (u2 (xc38.1 2) 1 1 (xc38.1 0 1 1)) := ⟨_, rfl⟩
              rw [← ex3] at hI
              refine lv_iload hx hb dX13_fitting_113 (lv_at hl 5 rfl) ?_
              refine lv_iload hx hb dX13_fitting_115 (lv_at hl 7 rfl) ?_
              refine lv_if_eq (tgt := 127) hx hb dX13_fitting_117 (by decide) (fun c_117 => ?_) (fun c_117 => ?_)
              · skip
                refine lv_iconst (v := 0) hx hb dX13_fitting_127 (by decide) ?_
                refine lv_ior hx hb dX13_fitting_128 ?_
                refine lv_istore (lv' := [(5, .int ((itr (ftS (x.1 0) k r (tOf (x.2.1 3 sn), sz, fun i => x.2.1 5 (40 * sn + i))) 0 i) ||| (0 : Int32))), (0, .ref (L 0)), (1, .int (nI sn)), (2, .int (nI k)), (3, .int (nI r)), (4, .int (nI most)), (6, .int (nI i)), (7, .int (itr (wsoS (u2 (x.1 0) (2 + r) k (nI i)) k (tOf (x.2.1 3 sn), sz, fun i => x.2.1 5 (40 * sn + i))) 1 j)), (8, .int (nI j))]) hx hb dX13_fitting_129 hl (by decide) rfl (fun ls hl => ?_)
                refine lv_iinc (v := (nI (i + 1))) (lv' := [(6, .int (nI (i + 1))), (5, .int ((itr (ftS (x.1 0) k r (tOf (x.2.1 3 sn), sz, fun i => x.2.1 5 (40 * sn + i))) 0 i) ||| (0 : Int32))), (0, .ref (L 0)), (1, .int (nI sn)), (2, .int (nI k)), (3, .int (nI r)), (4, .int (nI most)), (7, .int (itr (wsoS (u2 (x.1 0) (2 + r) k (nI i)) k (tOf (x.2.1 3 sn), sz, fun i => x.2.1 5 (40 * sn + i))) 1 j)), (8, .int (nI j))]) hx hb dX13_fitting_131 hl (k := 6) rfl (nI_1 _) (by decide) rfl (fun ls hl => ?_)
                refine lv_goto (tgt := 17) hx hb dX13_fitting_134 (by decide) ?_
                exact ih17 (i + 1) (by omega) (by omega) ((itr (ftS (x.1 0) k r (tOf (x.2.1 3 sn), sz, fun i => x.2.1 5 (40 * sn + i))) 0 i) ||| (0 : Int32)) (nI (i + 1)) (by rw [itr_s, ftS, ← hwe]; first | (rw [if_pos c_117]; done) | (rw [if_neg c_117]; rfl)) (rfl) x3 (by rw [ex3, exc38]; simp only [ys_at, ys_ys, ys_c0]; rw [psn_1 _ _ 1 (by decide), u2_ne (show 1 ≠ 2 + r by omega), u2_self]) _ _ hI hS ls (lv_sub hl [2, 3, 4, 5, 6, 1, 0] rfl)
              · skip
                refine lv_iconst (v := 1) hx hb dX13_fitting_120 (by decide) ?_
                refine lv_iload hx hb dX13_fitting_121 (lv_at hl 6 rfl) ?_
                refine lv_ishl hx hb dX13_fitting_123 ?_
                refine lv_goto (tgt := 128) hx hb dX13_fitting_124 (by decide) ?_
                refine lv_ior hx hb dX13_fitting_128 ?_
                refine lv_istore (lv' := [(5, .int ((itr (ftS (x.1 0) k r (tOf (x.2.1 3 sn), sz, fun i => x.2.1 5 (40 * sn + i))) 0 i) ||| ((1 : Int32) <<< ((nI i) &&& 31)))), (0, .ref (L 0)), (1, .int (nI sn)), (2, .int (nI k)), (3, .int (nI r)), (4, .int (nI most)), (6, .int (nI i)), (7, .int (itr (wsoS (u2 (x.1 0) (2 + r) k (nI i)) k (tOf (x.2.1 3 sn), sz, fun i => x.2.1 5 (40 * sn + i))) 1 j)), (8, .int (nI j))]) hx hb dX13_fitting_129 hl (by decide) rfl (fun ls hl => ?_)
                refine lv_iinc (v := (nI (i + 1))) (lv' := [(6, .int (nI (i + 1))), (5, .int ((itr (ftS (x.1 0) k r (tOf (x.2.1 3 sn), sz, fun i => x.2.1 5 (40 * sn + i))) 0 i) ||| ((1 : Int32) <<< ((nI i) &&& 31)))), (0, .ref (L 0)), (1, .int (nI sn)), (2, .int (nI k)), (3, .int (nI r)), (4, .int (nI most)), (7, .int (itr (wsoS (u2 (x.1 0) (2 + r) k (nI i)) k (tOf (x.2.1 3 sn), sz, fun i => x.2.1 5 (40 * sn + i))) 1 j)), (8, .int (nI j))]) hx hb dX13_fitting_131 hl (k := 6) rfl (nI_1 _) (by decide) rfl (fun ls hl => ?_)
                refine lv_goto (tgt := 17) hx hb dX13_fitting_134 (by decide) ?_
                exact ih17 (i + 1) (by omega) (by omega) ((itr (ftS (x.1 0) k r (tOf (x.2.1 3 sn), sz, fun i => x.2.1 5 (40 * sn + i))) 0 i) ||| ((1 : Int32) <<< ((nI i) &&& 31))) (nI (i + 1)) (by rw [itr_s, ftS, ← hwe]; first | (rw [if_pos c_117]; done) | (rw [if_neg c_117]; rfl)) (rfl) x3 (by rw [ex3, exc38]; simp only [ys_at, ys_ys, ys_c0]; rw [psn_1 _ _ 1 (by decide), u2_ne (show 1 ≠ 2 + r by omega), u2_self]) _ _ hI hS ls (lv_sub hl [2, 3, 4, 5, 6, 1, 0] rfl)
            · skip
              have c_46 : ¬ sz ≤ j := fun z => c_46 ((nle (a := sz) (b := j) (hq4_xc38) (rfl) (by omega) (by omega)).mpr z)
              refine lv_iload hx hb dX13_fitting_49 (lv_at hl 7 rfl) ?_
              refine lv_if_eq (tgt := 102) hx hb dX13_fitting_51 (by decide) (fun c_51 => ?_) (fun c_51 => ?_)
              · skip
                have hwe := ws_end (f := u2 (x.1 0) (2 + r) k (nI i)) (k := k) (z := (tOf (x.2.1 3 sn), sz, fun i => x.2.1 5 (40 * sn + i))) (i := j) hj (by first | (left; exact c_51) | (right; show sz ≤ j; omega))
                refine lv_aload_n hx hb dX13_fitting_102 rfl (lv_at hl 0 rfl) ?_
                refine r_get (C := RX13) (T := TX13) (N := 18) hx hb hts in_X13 hown hK hI (mf_main) rfl 2 (by decide) (hts _ q1166) (fun _ h => h) rfl dX13_fitting_103 ?_
                refine lv_aload_n hx hb dX13_fitting_106 rfl (lv_at hl 0 rfl) ?_
                refine r_get (C := RX13) (T := TX13) (N := 18) hx hb hts in_X13 hown hK hI (mf_main) rfl 0 (by decide) (hts _ q1164) (fun _ h => h) rfl dX13_fitting_107 ?_
                refine c_m (k_SI (As := [.ref (L 3), .ref (L 1)]) (rest := []) F (k_X13_copies (cf' := cfM D L (ys xc38 0 (u2 (xc38.1 2) 1 1 (xc38.1 0 1 1)))) mf_aside mf_d (by decide) (ms_w (w := 0) (by decide) (mu_gone _ _) (by rw [u2_at, if_pos ⟨rfl, rfl⟩]))) (va_cwS 2 hts (lw_S q1391 q1392 q107 q1393) rfl rfl rfl (by decide +kernel) ⟨Nat.le_of_ble_eq_true rfl, Nat.le_of_ble_eq_true rfl⟩) hI hK rfl hl.1 rfl (Nat.le_of_ble_eq_true rfl) dX13_fitting_110 ⟨Nat.le_of_ble_eq_true rfl, Nat.le_of_ble_eq_true rfl⟩) hS (fun H1 locs1 hI hS => ?_)
                obtain ⟨x4, ex4⟩ : ∃ z, z = ys xc38 0 (u2 (xc38.1 2) 1 1 (xc38.1 0 1 1)) := ⟨_, rfl⟩
                rw [← ex4] at hI
                refine lv_iload hx hb dX13_fitting_113 (lv_at hl 5 rfl) ?_
                refine lv_iload hx hb dX13_fitting_115 (lv_at hl 7 rfl) ?_
                refine lv_if_eq (tgt := 127) hx hb dX13_fitting_117 (by decide) (fun c_117 => ?_) (fun c_117 => ?_)
                · skip
                  refine lv_iconst (v := 0) hx hb dX13_fitting_127 (by decide) ?_
                  refine lv_ior hx hb dX13_fitting_128 ?_
                  refine lv_istore (lv' := [(5, .int ((itr (ftS (x.1 0) k r (tOf (x.2.1 3 sn), sz, fun i => x.2.1 5 (40 * sn + i))) 0 i) ||| (0 : Int32))), (0, .ref (L 0)), (1, .int (nI sn)), (2, .int (nI k)), (3, .int (nI r)), (4, .int (nI most)), (6, .int (nI i)), (7, .int (itr (wsoS (u2 (x.1 0) (2 + r) k (nI i)) k (tOf (x.2.1 3 sn), sz, fun i => x.2.1 5 (40 * sn + i))) 1 j)), (8, .int (nI j))]) hx hb dX13_fitting_129 hl (by decide) rfl (fun ls hl => ?_)
                  refine lv_iinc (v := (nI (i + 1))) (lv' := [(6, .int (nI (i + 1))), (5, .int ((itr (ftS (x.1 0) k r (tOf (x.2.1 3 sn), sz, fun i => x.2.1 5 (40 * sn + i))) 0 i) ||| (0 : Int32))), (0, .ref (L 0)), (1, .int (nI sn)), (2, .int (nI k)), (3, .int (nI r)), (4, .int (nI most)), (7, .int (itr (wsoS (u2 (x.1 0) (2 + r) k (nI i)) k (tOf (x.2.1 3 sn), sz, fun i => x.2.1 5 (40 * sn + i))) 1 j)), (8, .int (nI j))]) hx hb dX13_fitting_131 hl (k := 6) rfl (nI_1 _) (by decide) rfl (fun ls hl => ?_)
                  refine lv_goto (tgt := 17) hx hb dX13_fitting_134 (by decide) ?_
                  exact ih17 (i + 1) (by omega) (by omega) ((itr (ftS (x.1 0) k r (tOf (x.2.1 3 sn), sz, fun i => x.2.1 5 (40 * sn + i))) 0 i) ||| (0 : Int32)) (nI (i + 1)) (by rw [itr_s, ftS, ← hwe]; first | (rw [if_pos c_117]; done) | (rw [if_neg c_117]; rfl)) (rfl) x4 (by rw [ex4, exc38]; simp only [ys_at, ys_ys, ys_c0]; rw [psn_1 _ _ 1 (by decide), u2_ne (show 1 ≠ 2 + r by omega), u2_self]) _ _ hI hS ls (lv_sub hl [2, 3, 4, 5, 6, 1, 0] rfl)
                · skip
                  refine lv_iconst (v := 1) hx hb dX13_fitting_120 (by decide) ?_
                  refine lv_iload hx hb dX13_fitting_121 (lv_at hl 6 rfl) ?_
                  refine lv_ishl hx hb dX13_fitting_123 ?_
                  refine lv_goto (tgt := 128) hx hb dX13_fitting_124 (by decide) ?_
                  refine lv_ior hx hb dX13_fitting_128 ?_
                  refine lv_istore (lv' := [(5, .int ((itr (ftS (x.1 0) k r (tOf (x.2.1 3 sn), sz, fun i => x.2.1 5 (40 * sn + i))) 0 i) ||| ((1 : Int32) <<< ((nI i) &&& 31)))), (0, .ref (L 0)), (1, .int (nI sn)), (2, .int (nI k)), (3, .int (nI r)), (4, .int (nI most)), (6, .int (nI i)), (7, .int (itr (wsoS (u2 (x.1 0) (2 + r) k (nI i)) k (tOf (x.2.1 3 sn), sz, fun i => x.2.1 5 (40 * sn + i))) 1 j)), (8, .int (nI j))]) hx hb dX13_fitting_129 hl (by decide) rfl (fun ls hl => ?_)
                  refine lv_iinc (v := (nI (i + 1))) (lv' := [(6, .int (nI (i + 1))), (5, .int ((itr (ftS (x.1 0) k r (tOf (x.2.1 3 sn), sz, fun i => x.2.1 5 (40 * sn + i))) 0 i) ||| ((1 : Int32) <<< ((nI i) &&& 31)))), (0, .ref (L 0)), (1, .int (nI sn)), (2, .int (nI k)), (3, .int (nI r)), (4, .int (nI most)), (7, .int (itr (wsoS (u2 (x.1 0) (2 + r) k (nI i)) k (tOf (x.2.1 3 sn), sz, fun i => x.2.1 5 (40 * sn + i))) 1 j)), (8, .int (nI j))]) hx hb dX13_fitting_131 hl (k := 6) rfl (nI_1 _) (by decide) rfl (fun ls hl => ?_)
                  refine lv_goto (tgt := 17) hx hb dX13_fitting_134 (by decide) ?_
                  exact ih17 (i + 1) (by omega) (by omega) ((itr (ftS (x.1 0) k r (tOf (x.2.1 3 sn), sz, fun i => x.2.1 5 (40 * sn + i))) 0 i) ||| ((1 : Int32) <<< ((nI i) &&& 31))) (nI (i + 1)) (by rw [itr_s, ftS, ← hwe]; first | (rw [if_pos c_117]; done) | (rw [if_neg c_117]; rfl)) (rfl) x4 (by rw [ex4, exc38]; simp only [ys_at, ys_ys, ys_c0]; rw [psn_1 _ _ 1 (by decide), u2_ne (show 1 ≠ 2 + r by omega), u2_self]) _ _ hI hS ls (lv_sub hl [2, 3, 4, 5, 6, 1, 0] rfl)
              · skip
                refine lv_aload_n hx hb dX13_fitting_54 rfl (lv_at hl 0 rfl) ?_
                refine r_get (C := RX13) (T := TX13) (N := 18) hx hb hts in_X13 hown hK hI (mf_main) rfl 16 (by decide) (hts _ q1180) (fun _ h => h) rfl dX13_fitting_55 ?_
                refine lv_bipush (v := 40) hx hb dX13_fitting_58 (by decide) ?_
                refine lv_iload_n hx hb dX13_fitting_60 rfl (lv_at hl 1 rfl) ?_
                refine lv_imul hx hb dX13_fitting_61 ?_
                refine lv_iload hx hb dX13_fitting_62 (lv_at hl 8 rfl) ?_
                refine lv_iadd hx hb dX13_fitting_64 ?_
                refine n_iald (k := ((40 * sn) + j)) hx hb hK hI (mf_num) (na_add (na_mul (rfl) (rfl)) (rfl)) (by omega) (by decide) dX13_fitting_65 ?_
                refine lv_istore (lv' := [(9, .int (xc38.2.1 5 ((40 * sn) + j))), (0, .ref (L 0)), (1, .int (nI sn)), (2, .int (nI k)), (3, .int (nI r)), (4, .int (nI most)), (5, .int (itr (ftS (x.1 0) k r (tOf (x.2.1 3 sn), sz, fun i => x.2.1 5 (40 * sn + i))) 0 i)), (6, .int (nI i)), (7, .int (itr (wsoS (u2 (x.1 0) (2 + r) k (nI i)) k (tOf (x.2.1 3 sn), sz, fun i => x.2.1 5 (40 * sn + i))) 1 j)), (8, .int (nI j))]) hx hb dX13_fitting_66 hl (by decide) rfl (fun ls hl => ?_)
                refine lv_iload hx hb dX13_fitting_68 (lv_at hl 0 rfl) ?_
                refine lv_iconst (v := (-1)) hx hb dX13_fitting_70 (by decide) ?_
                refine lv_icmp_eq (tgt := 85) hx hb dX13_fitting_71 (by decide) (fun c_71 => ?_) (fun c_71 => ?_)
                · skip
                  refine lv_iconst (v := 1) hx hb dX13_fitting_85 (by decide) ?_
                  refine lv_goto (tgt := 90) hx hb dX13_fitting_86 (by decide) ?_
                  refine lv_istore (lv' := [(7, .int 1), (9, .int (xc38.2.1 5 ((40 * sn) + j))), (0, .ref (L 0)), (1, .int (nI sn)), (2, .int (nI k)), (3, .int (nI r)), (4, .int (nI most)), (5, .int (itr (ftS (x.1 0) k r (tOf (x.2.1 3 sn), sz, fun i => x.2.1 5 (40 * sn + i))) 0 i)), (6, .int (nI i)), (8, .int (nI j))]) hx hb dX13_fitting_90 hl (by decide) rfl (fun ls hl => ?_)
                  refine lv_aload_n hx hb dX13_fitting_92 rfl (lv_at hl 2 rfl) ?_
                  refine c_m (k_V (As := []) (rest := []) F (k_X13_dayGoes xc38 (hO_xc38) (hd_xc38)) (cwV 0 hts (lw_V q1347 q1349 qs62 q107 q1350) rfl rfl rfl (by decide +kernel) ⟨Nat.le_of_ble_eq_true rfl, Nat.le_of_ble_eq_true rfl⟩) hI hK (hw.recv hI hK (mf_main) rfl) rfl hl.1 rfl (Nat.le_of_ble_eq_true rfl) dX13_fitting_93 ⟨Nat.le_of_ble_eq_true rfl, Nat.le_of_ble_eq_true rfl⟩) hS (fun H1 locs1 hI hS => ?_)
                  obtain ⟨x5, ex5⟩ : ∃ z, z = ys xc38 0 (psw (xc38.1 0)) := ⟨_, rfl⟩
                  rw [← ex5] at hI
                  refine lv_iinc (v := (nI (j + 1))) (lv' := [(8, .int (nI (j + 1))), (7, .int 1), (9, .int (xc38.2.1 5 ((40 * sn) + j))), (0, .ref (L 0)), (1, .int (nI sn)), (2, .int (nI k)), (3, .int (nI r)), (4, .int (nI most)), (5, .int (itr (ftS (x.1 0) k r (tOf (x.2.1 3 sn), sz, fun i => x.2.1 5 (40 * sn + i))) 0 i)), (6, .int (nI i))]) hx hb dX13_fitting_96 hl (k := 9) rfl (nI_1 _) (by decide) rfl (fun ls hl => ?_)
                  refine lv_goto (tgt := 38) hx hb dX13_fitting_99 (by decide) ?_
                  exact ih38 (j + 1) (by omega) (by omega) 1 (nI (j + 1)) (by rw [hq5_xc38] at c_71; rw [itr_s, wsoS, if_neg c_51]; first | (rw [if_pos c_71]; done) | (rw [if_neg c_71]; rw [hq5_xc38, hf] at c_82; first | rw [if_pos c_82] | rw [if_neg c_82]; done)) (rfl) x5 (by rw [ex5, exc38]; simp only [ys_at, ys_ys]; rfl) _ _ hI hS ls (lv_sub hl [3, 4, 5, 6, 7, 8, 9, 1, 0] rfl)
                · skip
                  refine lv_iload hx hb dX13_fitting_74 (lv_at hl 0 rfl) ?_
                  refine lv_aload_n hx hb dX13_fitting_76 rfl (lv_at hl 1 rfl) ?_
                  refine lv_iload_n hx hb dX13_fitting_77 rfl (lv_at hl 3 rfl) ?_
                  refine lv_iconst (v := 3) hx hb dX13_fitting_78 (by decide) ?_
                  refine c_r (k_V (As := [.int (nI k), .int 3]) (rest := [.int (xc38.2.1 5 ((40 * sn) + j))]) F (k_X13_its xc38 (nI k) 3 k 3 (by omega) (by omega) rfl rfl) (cwV 2 hts (lw_V q1256 q1258 qs49 q107 q1259) rfl rfl rfl (by decide +kernel) ⟨Nat.le_of_ble_eq_true rfl, Nat.le_of_ble_eq_true rfl⟩) hI hK (hw.recv hI hK (mf_main) rfl) rfl hl.1 rfl (Nat.le_of_ble_eq_true rfl) dX13_fitting_79 ⟨Nat.le_of_ble_eq_true rfl, Nat.le_of_ble_eq_true rfl⟩) ?_
                  refine lv_icmp_ne (tgt := 89) hx hb dX13_fitting_82 (by decide) (fun c_82 => ?_) (fun c_82 => ?_)
                  · skip
                    refine lv_iconst (v := 0) hx hb dX13_fitting_89 (by decide) ?_
                    refine lv_istore (lv' := [(7, .int 0), (9, .int (xc38.2.1 5 ((40 * sn) + j))), (0, .ref (L 0)), (1, .int (nI sn)), (2, .int (nI k)), (3, .int (nI r)), (4, .int (nI most)), (5, .int (itr (ftS (x.1 0) k r (tOf (x.2.1 3 sn), sz, fun i => x.2.1 5 (40 * sn + i))) 0 i)), (6, .int (nI i)), (8, .int (nI j))]) hx hb dX13_fitting_90 hl (by decide) rfl (fun ls hl => ?_)
                    refine lv_aload_n hx hb dX13_fitting_92 rfl (lv_at hl 2 rfl) ?_
                    refine c_m (k_V (As := []) (rest := []) F (k_X13_dayGoes xc38 (hO_xc38) (hd_xc38)) (cwV 0 hts (lw_V q1347 q1349 qs62 q107 q1350) rfl rfl rfl (by decide +kernel) ⟨Nat.le_of_ble_eq_true rfl, Nat.le_of_ble_eq_true rfl⟩) hI hK (hw.recv hI hK (mf_main) rfl) rfl hl.1 rfl (Nat.le_of_ble_eq_true rfl) dX13_fitting_93 ⟨Nat.le_of_ble_eq_true rfl, Nat.le_of_ble_eq_true rfl⟩) hS (fun H1 locs1 hI hS => ?_)
                    obtain ⟨x6, ex6⟩ : ∃ z, z = ys xc38 0 (psw (xc38.1 0)) := ⟨_, rfl⟩
                    rw [← ex6] at hI
                    refine lv_iinc (v := (nI (j + 1))) (lv' := [(8, .int (nI (j + 1))), (7, .int 0), (9, .int (xc38.2.1 5 ((40 * sn) + j))), (0, .ref (L 0)), (1, .int (nI sn)), (2, .int (nI k)), (3, .int (nI r)), (4, .int (nI most)), (5, .int (itr (ftS (x.1 0) k r (tOf (x.2.1 3 sn), sz, fun i => x.2.1 5 (40 * sn + i))) 0 i)), (6, .int (nI i))]) hx hb dX13_fitting_96 hl (k := 9) rfl (nI_1 _) (by decide) rfl (fun ls hl => ?_)
                    refine lv_goto (tgt := 38) hx hb dX13_fitting_99 (by decide) ?_
                    exact ih38 (j + 1) (by omega) (by omega) 0 (nI (j + 1)) (by rw [hq5_xc38] at c_71; rw [itr_s, wsoS, if_neg c_51]; first | (rw [if_pos c_71]; done) | (rw [if_neg c_71]; rw [hq5_xc38, hf] at c_82; first | rw [if_pos c_82] | rw [if_neg c_82]; done)) (rfl) x6 (by rw [ex6, exc38]; simp only [ys_at, ys_ys]; rfl) _ _ hI hS ls (lv_sub hl [3, 4, 5, 6, 7, 8, 9, 1, 0] rfl)
                  · skip
                    refine lv_iconst (v := 1) hx hb dX13_fitting_85 (by decide) ?_
                    refine lv_goto (tgt := 90) hx hb dX13_fitting_86 (by decide) ?_
                    refine lv_istore (lv' := [(7, .int 1), (9, .int (xc38.2.1 5 ((40 * sn) + j))), (0, .ref (L 0)), (1, .int (nI sn)), (2, .int (nI k)), (3, .int (nI r)), (4, .int (nI most)), (5, .int (itr (ftS (x.1 0) k r (tOf (x.2.1 3 sn), sz, fun i => x.2.1 5 (40 * sn + i))) 0 i)), (6, .int (nI i)), (8, .int (nI j))]) hx hb dX13_fitting_90 hl (by decide) rfl (fun ls hl => ?_)
                    refine lv_aload_n hx hb dX13_fitting_92 rfl (lv_at hl 2 rfl) ?_
                    refine c_m (k_V (As := []) (rest := []) F (k_X13_dayGoes xc38 (hO_xc38) (hd_xc38)) (cwV 0 hts (lw_V q1347 q1349 qs62 q107 q1350) rfl rfl rfl (by decide +kernel) ⟨Nat.le_of_ble_eq_true rfl, Nat.le_of_ble_eq_true rfl⟩) hI hK (hw.recv hI hK (mf_main) rfl) rfl hl.1 rfl (Nat.le_of_ble_eq_true rfl) dX13_fitting_93 ⟨Nat.le_of_ble_eq_true rfl, Nat.le_of_ble_eq_true rfl⟩) hS (fun H1 locs1 hI hS => ?_)
                    obtain ⟨x7, ex7⟩ : ∃ z, z = ys xc38 0 (psw (xc38.1 0)) := ⟨_, rfl⟩
                    rw [← ex7] at hI
                    refine lv_iinc (v := (nI (j + 1))) (lv' := [(8, .int (nI (j + 1))), (7, .int 1), (9, .int (xc38.2.1 5 ((40 * sn) + j))), (0, .ref (L 0)), (1, .int (nI sn)), (2, .int (nI k)), (3, .int (nI r)), (4, .int (nI most)), (5, .int (itr (ftS (x.1 0) k r (tOf (x.2.1 3 sn), sz, fun i => x.2.1 5 (40 * sn + i))) 0 i)), (6, .int (nI i))]) hx hb dX13_fitting_96 hl (k := 9) rfl (nI_1 _) (by decide) rfl (fun ls hl => ?_)
                    refine lv_goto (tgt := 38) hx hb dX13_fitting_99 (by decide) ?_
                    exact ih38 (j + 1) (by omega) (by omega) 1 (nI (j + 1)) (by rw [hq5_xc38] at c_71; rw [itr_s, wsoS, if_neg c_51]; first | (rw [if_pos c_71]; done) | (rw [if_neg c_71]; rw [hq5_xc38, hf] at c_82; first | rw [if_pos c_82] | rw [if_neg c_82]; done)) (rfl) x7 (by rw [ex7, exc38]; simp only [ys_at, ys_ys]; rfl) _ _ hI hS ls (lv_sub hl [3, 4, 5, 6, 7, 8, 9, 1, 0] rfl)
        exact lp38 (_ + 1) (0) (Nat.zero_le _) (Nat.lt_succ_self _) 1 0 (rfl) (rfl) x2 (by rw [ex2, exc17]; simp only [ys_at, ys_ys]; rfl) _ _ hI hS ls (lv_sub hl [2, 3, 4, 5, 6, 7, 8, 1, 0] rfl)
  exact lp17 (_ + 1) (0) (Nat.zero_le _) (Nat.lt_succ_self _) 0 0 (rfl) (rfl) x1 (by rw [ex1]; exact (ys_20 x).symm) _ _ hI hS ls (lv_sub hl [2, 3, 4, 5, 6, 1, 0] rfl)
theorem k_X13_whyNot_l {l : Launch} {D : va_G} {L : Nat → Nat} {A : Nat → Prop} (x : mst) (v g : Int32) (kq : Nat) (hz : shq (shMq x) v = .inl kq) (hkq : kq < 7) : Met l yX13_whyNot (ws_ yX13_whyNot cX13_whyNot 4 (some .int)) ({ frames := 3, cells := 0, slots := 0, locals := 66 } : Room) (va_Pc [.ref (L 0), .int v, .int g] (pI D (cfM D L x) A)) (rQ (.int (nI kq))) 0 0 nof := by
  refine met_I (by decide) rfl (Nat.le_of_ble_eq_true rfl) ?_
  intro p e s m below meth c ls hx hb hr hml hown hts hlocks hl hI hK
  have F : CallFix p m c cX13_whyNot 4 s _ lw_all RX13 := ⟨hx, hb, hml, hown, hts⟩
  have hl : lv_has ls 4 [(0, .ref (L 0)), (1, .int v), (2, .int g)] := hl
  refine lv_aload_n hx hb dX13_whyNot_0 rfl (lv_at hl 0 rfl) ?_
  refine lv_iload_n hx hb dX13_whyNot_1 rfl (lv_at hl 1 rfl) ?_
  refine c_r (k_V (As := [.int v]) (rest := []) F (k_X13_whyNone_l x v kq hz) (cwV 1 hts (lw_V q1456 q1458 qs74 q107 q1459) rfl rfl rfl (by decide +kernel) ⟨Nat.le_of_ble_eq_true rfl, Nat.le_of_ble_eq_true rfl⟩) hI hK (hw.recv hI hK (mf_main) rfl) rfl hl.1 rfl (Nat.le_of_ble_eq_true rfl) dX13_whyNot_2 ⟨Nat.le_of_ble_eq_true rfl, Nat.le_of_ble_eq_true rfl⟩) ?_
  refine lv_istore_n (lv' := [(3, .int (nI kq)), (0, .ref (L 0)), (1, .int v), (2, .int g)]) hx hb dX13_whyNot_5 rfl hl (by decide) rfl (fun ls hl => ?_)
  refine lv_iload_n hx hb dX13_whyNot_6 rfl (lv_at hl 0 rfl) ?_
  refine lv_if_lt (tgt := 14) hx hb dX13_whyNot_7 (by decide) (fun c_7 => ?_) (fun c_7 => ?_)
  · skip
    have c_7 : kq < 0 := (nlt (a := kq) (b := 0) (rfl) (rfl) (by omega) (by omega)).mp c_7
    exact absurd c_7 (Nat.not_lt_zero _)
  · skip
    have c_7 : ¬ kq < 0 := fun z => c_7 ((nlt (a := kq) (b := 0) (rfl) (rfl) (by omega) (by omega)).mpr z)
    refine lv_iload_n hx hb dX13_whyNot_10 rfl (lv_at hl 0 rfl) ?_
    refine lv_goto (tgt := 27) hx hb dX13_whyNot_11 (by decide) ?_
    exact W.iret hx hb hr (fun t ht _ => ⟨rI (rfl), ht⟩) (fun q h => by cases h) dX13_whyNot_27
theorem k_X13_whyNot_g {l : Launch} {D : va_G} {L : Nat → Nat} {A : Nat → Prop} (x : mst) (sn : Nat) (g : Int32) (hs : sn < 4) (hb0 : ¬ x.2.1 3 sn = 0) (hg : isGlI (x.1 0) g = 0) : Met l yX13_whyNot (ws_ yX13_whyNot cX13_whyNot 4 (some .int)) ({ frames := 3, cells := 0, slots := 0, locals := 66 } : Room) (va_Pc [.ref (L 0), .int (nI sn), .int g] (pI D (cfM D L x) A)) (rQ (.int 0)) 0 0 nof := by
  refine met_I (by decide) rfl (Nat.le_of_ble_eq_true rfl) ?_
  intro p e s m below meth c ls hx hb hr hml hown hts hlocks hl hI hK
  have F : CallFix p m c cX13_whyNot 4 s _ lw_all RX13 := ⟨hx, hb, hml, hown, hts⟩
  have hl : lv_has ls 4 [(0, .ref (L 0)), (1, .int (nI sn)), (2, .int g)] := hl
  refine lv_aload_n hx hb dX13_whyNot_0 rfl (lv_at hl 0 rfl) ?_
  refine lv_iload_n hx hb dX13_whyNot_1 rfl (lv_at hl 1 rfl) ?_
  refine c_r (k_V (As := [.int (nI sn)]) (rest := []) F (k_X13_whyNone_r x sn hs hb0) (cwV 1 hts (lw_V q1456 q1458 qs74 q107 q1459) rfl rfl rfl (by decide +kernel) ⟨Nat.le_of_ble_eq_true rfl, Nat.le_of_ble_eq_true rfl⟩) hI hK (hw.recv hI hK (mf_main) rfl) rfl hl.1 rfl (Nat.le_of_ble_eq_true rfl) dX13_whyNot_2 ⟨Nat.le_of_ble_eq_true rfl, Nat.le_of_ble_eq_true rfl⟩) ?_
  refine lv_istore_n (lv' := [(3, .int (-1)), (0, .ref (L 0)), (1, .int (nI sn)), (2, .int g)]) hx hb dX13_whyNot_5 rfl hl (by decide) rfl (fun ls hl => ?_)
  refine lv_iload_n hx hb dX13_whyNot_6 rfl (lv_at hl 0 rfl) ?_
  refine lv_if_lt (tgt := 14) hx hb dX13_whyNot_7 (by decide) (fun c_7 => ?_) (fun c_7 => ?_)
  · skip
    refine lv_aload_n hx hb dX13_whyNot_14 rfl (lv_at hl 1 rfl) ?_
    refine lv_iload_n hx hb dX13_whyNot_15 rfl (lv_at hl 3 rfl) ?_
    refine c_r (k_V (As := [.int g]) (rest := []) F (k_X13_isGlove x g) (cwV 1 hts (lw_V q1289 q1291 qs55 q107 q1292) rfl rfl rfl (by decide +kernel) ⟨Nat.le_of_ble_eq_true rfl, Nat.le_of_ble_eq_true rfl⟩) hI hK (hw.recv hI hK (mf_main) rfl) rfl hl.1 rfl (Nat.le_of_ble_eq_true rfl) dX13_whyNot_16 ⟨Nat.le_of_ble_eq_true rfl, Nat.le_of_ble_eq_true rfl⟩) ?_
    refine lv_if_eq (tgt := 26) hx hb dX13_whyNot_19 (by decide) (fun c_19 => ?_) (fun c_19 => ?_)
    · skip
      refine lv_iconst (v := 0) hx hb dX13_whyNot_26 (by decide) ?_
      exact W.iret hx hb hr (fun t ht _ => ⟨rI (rfl), ht⟩) (fun q h => by cases h) dX13_whyNot_27
    · skip
      exact absurd hg c_19
  · skip
    exact absurd (by decide) c_7
theorem k_X13_whyNot_r {l : Launch} {D : va_G} {L : Nat → Nat} {A : Nat → Prop} (x : mst) (sn : Nat) (g : Int32) (hs : sn < 4) (hb0 : ¬ x.2.1 3 sn = 0) (hg : ¬ isGlI (x.1 0) g = 0) : Met l yX13_whyNot (ws_ yX13_whyNot cX13_whyNot 4 (some .int)) ({ frames := 3, cells := 0, slots := 0, locals := 66 } : Room) (va_Pc [.ref (L 0), .int (nI sn), .int g] (pI D (cfM D L x) A)) (rQ (.int (-1))) 0 0 nof := by
  refine met_I (by decide) rfl (Nat.le_of_ble_eq_true rfl) ?_
  intro p e s m below meth c ls hx hb hr hml hown hts hlocks hl hI hK
  have F : CallFix p m c cX13_whyNot 4 s _ lw_all RX13 := ⟨hx, hb, hml, hown, hts⟩
  have hl : lv_has ls 4 [(0, .ref (L 0)), (1, .int (nI sn)), (2, .int g)] := hl
  refine lv_aload_n hx hb dX13_whyNot_0 rfl (lv_at hl 0 rfl) ?_
  refine lv_iload_n hx hb dX13_whyNot_1 rfl (lv_at hl 1 rfl) ?_
  refine c_r (k_V (As := [.int (nI sn)]) (rest := []) F (k_X13_whyNone_r x sn hs hb0) (cwV 1 hts (lw_V q1456 q1458 qs74 q107 q1459) rfl rfl rfl (by decide +kernel) ⟨Nat.le_of_ble_eq_true rfl, Nat.le_of_ble_eq_true rfl⟩) hI hK (hw.recv hI hK (mf_main) rfl) rfl hl.1 rfl (Nat.le_of_ble_eq_true rfl) dX13_whyNot_2 ⟨Nat.le_of_ble_eq_true rfl, Nat.le_of_ble_eq_true rfl⟩) ?_
  refine lv_istore_n (lv' := [(3, .int (-1)), (0, .ref (L 0)), (1, .int (nI sn)), (2, .int g)]) hx hb dX13_whyNot_5 rfl hl (by decide) rfl (fun ls hl => ?_)
  refine lv_iload_n hx hb dX13_whyNot_6 rfl (lv_at hl 0 rfl) ?_
  refine lv_if_lt (tgt := 14) hx hb dX13_whyNot_7 (by decide) (fun c_7 => ?_) (fun c_7 => ?_)
  · skip
    refine lv_aload_n hx hb dX13_whyNot_14 rfl (lv_at hl 1 rfl) ?_
    refine lv_iload_n hx hb dX13_whyNot_15 rfl (lv_at hl 3 rfl) ?_
    refine c_r (k_V (As := [.int g]) (rest := []) F (k_X13_isGlove x g) (cwV 1 hts (lw_V q1289 q1291 qs55 q107 q1292) rfl rfl rfl (by decide +kernel) ⟨Nat.le_of_ble_eq_true rfl, Nat.le_of_ble_eq_true rfl⟩) hI hK (hw.recv hI hK (mf_main) rfl) rfl hl.1 rfl (Nat.le_of_ble_eq_true rfl) dX13_whyNot_16 ⟨Nat.le_of_ble_eq_true rfl, Nat.le_of_ble_eq_true rfl⟩) ?_
    refine lv_if_eq (tgt := 26) hx hb dX13_whyNot_19 (by decide) (fun c_19 => ?_) (fun c_19 => ?_)
    · skip
      exact absurd c_19 hg
    · skip
      refine lv_iconst (v := (-1)) hx hb dX13_whyNot_22 (by decide) ?_
      refine lv_goto (tgt := 27) hx hb dX13_whyNot_23 (by decide) ?_
      exact W.iret hx hb hr (fun t ht _ => ⟨rI (rfl), ht⟩) (fun q h => by cases h) dX13_whyNot_27
  · skip
    exact absurd (by decide) c_7
set_option maxHeartbeats 1000000 in
theorem k_X13_fits {l : Launch} {D : va_G} {L : Nat → Nat} {A : Nat → Prop} (x : mst) (hO : wOk (x.1 0)) (hd : isN (x.1 0 1 2) 10000) (hmk : shMk x) (s0 g : Int32) : Met l yX13_fits (ws_ yX13_fits cX13_fits 4 (some .int)) ({ frames := 7, cells := 0, slots := 0, locals := 165 } : Room) (va_Pc [.ref (L 0), .int s0, .int g] (pI D (cfM D L x) A)) (jMQ D L (aM x (a_fits 1 6 (shMq x) (x.1 0) s0 g)) A (some (.int (aR (a_fits 1 6 (shMq x) (x.1 0) s0 g))))) 0 0 A := by
  refine met_I (by decide) rfl (Nat.le_of_ble_eq_true rfl) ?_
  intro p e s m below meth c ls hx hb hr hml hown hts hlocks hl hI hK
  have F : CallFix p m c cX13_fits 4 s _ lw_all RX13 := ⟨hx, hb, hml, hown, hts⟩
  have hl : lv_has ls 4 [(0, .ref (L 0)), (1, .int s0), (2, .int g)] := hl
  have hS : va_S A s.heap s.heap [] := va_S.rf
  obtain ⟨nn, hn, h8⟩ : ∃ n, x.1 0 1 0 = nI n ∧ n ≤ 8 := ⟨_, hO.n⟩
  have hN : wN (x.1 0) = nn := by unfold wN; rw [hn, nI_clamp (by omega)]
  refine lv_aload_n hx hb dX13_fits_0 rfl (lv_at hl 0 rfl) ?_
  refine lv_iload_n hx hb dX13_fits_1 rfl (lv_at hl 1 rfl) ?_
  refine lv_iload_n hx hb dX13_fits_2 rfl (lv_at hl 2 rfl) ?_
  rcases hz : shq (shMq x) s0 with kq | z
  · skip
    have hkq : kq < 7 := by rcases shq_l hz with h | h <;> omega
    refine c_r (k_V (As := [.int s0, .int g]) (rest := []) F (k_X13_whyNot_l x s0 g kq hz hkq) (cwV 2 hts (lw_V q1452 q1454 qs73 q107 q1455) rfl rfl rfl (by decide +kernel) ⟨Nat.le_of_ble_eq_true rfl, Nat.le_of_ble_eq_true rfl⟩) hI hK (hw.recv hI hK (mf_main) rfl) rfl hl.1 rfl (Nat.le_of_ble_eq_true rfl) dX13_fits_3 ⟨Nat.le_of_ble_eq_true rfl, Nat.le_of_ble_eq_true rfl⟩) ?_
    refine lv_istore_n (lv' := [(3, .int (nI kq)), (0, .ref (L 0)), (1, .int s0), (2, .int g)]) hx hb dX13_fits_6 rfl hl (by decide) rfl (fun ls hl => ?_)
    refine lv_iload_n hx hb dX13_fits_7 rfl (lv_at hl 0 rfl) ?_
    refine lv_if_lt (tgt := 19) hx hb dX13_fits_8 (by decide) (fun c_8 => ?_) (fun c_8 => ?_)
    · skip
      have c_8 : kq < 0 := (nlt (a := kq) (b := 0) (rfl) (rfl) (by omega) (by omega)).mp c_8
      exact absurd c_8 (Nat.not_lt_zero _)
    · skip
      have c_8 : ¬ kq < 0 := fun z => c_8 ((nlt (a := kq) (b := 0) (rfl) (rfl) (by omega) (by omega)).mpr z)
      refine lv_aload_n hx hb dX13_fits_11 rfl (lv_at hl 1 rfl) ?_
      refine lv_iload_n hx hb dX13_fits_12 rfl (lv_at hl 0 rfl) ?_
      refine c_m (k_V (As := [.int (nI kq)]) (rest := []) F (k_X13_finds x kq (by omega)) (cwV 1 hts (lw_V q1238 q1240 qs47 q107 q1241) rfl rfl rfl (by decide +kernel) ⟨Nat.le_of_ble_eq_true rfl, Nat.le_of_ble_eq_true rfl⟩) hI hK (hw.recv hI hK (mf_main) rfl) rfl hl.1 rfl (Nat.le_of_ble_eq_true rfl) dX13_fits_13 ⟨Nat.le_of_ble_eq_true rfl, Nat.le_of_ble_eq_true rfl⟩) hS (fun H1 locs1 hI hS => ?_)
      obtain ⟨x1, ex1⟩ : ∃ z, z = (fndM x kq) := ⟨_, rfl⟩
      rw [← ex1] at hI
      refine lv_goto (tgt := 27) hx hb dX13_fits_16 (by decide) ?_
      exact W.iret hx hb hr (fun t ht _ => ⟨rI (by rw [a_fits, hz]; first | (simp only [if_neg hg0]; rw [nI_clamp (by omega)]; rfl) | (simp only [if_pos hg0]; rfl) | (rfl)), ⟨x1, (by rw [a_fits, hz]; first | (simp only [if_neg hg0]; simp only [aM, ys_self]; assumption) | (simp only [if_pos hg0]; rw [ex1]; exact jm_rfl) | (rw [ex1]; exact jm_rfl)), by rw [ht]; exact hI⟩, hS.F ht⟩) hS.2.2 dX13_fits_27
  · skip
    obtain ⟨sn, hs, es0, hb0, ez⟩ := shq_r hz
    obtain ⟨hbit, sz, hsz, esz⟩ := hmk sn hs
    have ez2 : z = (tOf (x.2.1 3 sn), sz, fun i => x.2.1 5 (40 * sn + i)) := by rw [ez, esz, nI_clamp (by omega)]
    subst ez2
    subst es0
    by_cases hg0 : isGlI (x.1 0) g = 0
    · skip
      refine c_r (k_V (As := [.int (nI sn), .int g]) (rest := []) F (k_X13_whyNot_g x sn g hs hb0 hg0) (cwV 2 hts (lw_V q1452 q1454 qs73 q107 q1455) rfl rfl rfl (by decide +kernel) ⟨Nat.le_of_ble_eq_true rfl, Nat.le_of_ble_eq_true rfl⟩) hI hK (hw.recv hI hK (mf_main) rfl) rfl hl.1 rfl (Nat.le_of_ble_eq_true rfl) dX13_fits_3 ⟨Nat.le_of_ble_eq_true rfl, Nat.le_of_ble_eq_true rfl⟩) ?_
      refine lv_istore_n (lv' := [(3, .int 0), (0, .ref (L 0)), (1, .int (nI sn)), (2, .int g)]) hx hb dX13_fits_6 rfl hl (by decide) rfl (fun ls hl => ?_)
      refine lv_iload_n hx hb dX13_fits_7 rfl (lv_at hl 0 rfl) ?_
      refine lv_if_lt (tgt := 19) hx hb dX13_fits_8 (by decide) (fun c_8 => ?_) (fun c_8 => ?_)
      · skip
        have c_8 : 0 < 0 := (nlt (a := 0) (b := 0) (rfl) (rfl) (by omega) (by omega)).mp c_8
        exact absurd c_8 (by decide)
      · skip
        have c_8 : ¬ 0 < 0 := fun z => c_8 ((nlt (a := 0) (b := 0) (rfl) (rfl) (by omega) (by omega)).mpr z)
        refine lv_aload_n hx hb dX13_fits_11 rfl (lv_at hl 1 rfl) ?_
        refine lv_iload_n hx hb dX13_fits_12 rfl (lv_at hl 0 rfl) ?_
        refine c_m (k_V (As := [.int 0]) (rest := []) F (k_X13_finds x 0 (by decide)) (cwV 1 hts (lw_V q1238 q1240 qs47 q107 q1241) rfl rfl rfl (by decide +kernel) ⟨Nat.le_of_ble_eq_true rfl, Nat.le_of_ble_eq_true rfl⟩) hI hK (hw.recv hI hK (mf_main) rfl) rfl hl.1 rfl (Nat.le_of_ble_eq_true rfl) dX13_fits_13 ⟨Nat.le_of_ble_eq_true rfl, Nat.le_of_ble_eq_true rfl⟩) hS (fun H1 locs1 hI hS => ?_)
        obtain ⟨x2, ex2⟩ : ∃ z, z = (fndM x 0) := ⟨_, rfl⟩
        rw [← ex2] at hI
        refine lv_goto (tgt := 27) hx hb dX13_fits_16 (by decide) ?_
        exact W.iret hx hb hr (fun t ht _ => ⟨rI (by rw [a_fits, hz]; first | (simp only [if_neg hg0]; rw [nI_clamp (by omega)]; rfl) | (simp only [if_pos hg0]; rfl) | (rfl)), ⟨x2, (by rw [a_fits, hz]; first | (simp only [if_neg hg0]; simp only [aM, ys_self]; assumption) | (simp only [if_pos hg0]; rw [ex2]; exact jm_rfl) | (rw [ex2]; exact jm_rfl)), by rw [ht]; exact hI⟩, hS.F ht⟩) hS.2.2 dX13_fits_27
    · skip
      obtain ⟨k, hk, eg⟩ := isGl_to hn h8 hg0
      subst eg
      refine c_r (k_V (As := [.int (nI sn), .int (nI k)]) (rest := []) F (k_X13_whyNot_r x sn (nI k) hs hb0 hg0) (cwV 2 hts (lw_V q1452 q1454 qs73 q107 q1455) rfl rfl rfl (by decide +kernel) ⟨Nat.le_of_ble_eq_true rfl, Nat.le_of_ble_eq_true rfl⟩) hI hK (hw.recv hI hK (mf_main) rfl) rfl hl.1 rfl (Nat.le_of_ble_eq_true rfl) dX13_fits_3 ⟨Nat.le_of_ble_eq_true rfl, Nat.le_of_ble_eq_true rfl⟩) ?_
      refine lv_istore_n (lv' := [(3, .int (-1)), (0, .ref (L 0)), (1, .int (nI sn)), (2, .int (nI k))]) hx hb dX13_fits_6 rfl hl (by decide) rfl (fun ls hl => ?_)
      refine lv_iload_n hx hb dX13_fits_7 rfl (lv_at hl 0 rfl) ?_
      refine lv_if_lt (tgt := 19) hx hb dX13_fits_8 (by decide) (fun c_8 => ?_) (fun c_8 => ?_)
      · skip
        refine lv_aload_n hx hb dX13_fits_19 rfl (lv_at hl 1 rfl) ?_
        refine lv_iload_n hx hb dX13_fits_20 rfl (lv_at hl 2 rfl) ?_
        refine lv_iload_n hx hb dX13_fits_21 rfl (lv_at hl 3 rfl) ?_
        refine lv_iconst (v := 1) hx hb dX13_fits_22 (by decide) ?_
        refine lv_iconst (v := 5) hx hb dX13_fits_23 (by decide) ?_
        refine c_jm (k_V (As := [.int (nI sn), .int (nI k), .int 1, .int 5]) (rest := []) F (k_X13_fitting x hO hd sn sz hs (by omega) esz k 1 5 (by omega) (by omega)) (cwV 4 hts (lw_V q1463 q1465 qs75 q107 q1466) rfl rfl rfl (by decide +kernel) ⟨Nat.le_of_ble_eq_true rfl, Nat.le_of_ble_eq_true rfl⟩) hI hK (hw.recv hI hK (mf_main) rfl) rfl hl.1 rfl (Nat.le_of_ble_eq_true rfl) dX13_fits_24 ⟨Nat.le_of_ble_eq_true rfl, Nat.le_of_ble_eq_true rfl⟩) hS (fun x3 H1 locs1 ex3 hI hS => ?_)
        exact W.iret hx hb hr (fun t ht _ => ⟨rI (by rw [a_fits, hz]; first | (simp only [if_neg hg0]; rw [nI_clamp (by omega)]; rfl) | (simp only [if_pos hg0]; rfl) | (rfl)), ⟨x3, (by rw [a_fits, hz]; first | (simp only [if_neg hg0]; simp only [aM, ys_self]; assumption) | (simp only [if_pos hg0]; rw [ex3]; exact jm_rfl) | (rw [ex3]; exact jm_rfl)), by rw [ht]; exact hI⟩, hS.F ht⟩) hS.2.2 dX13_fits_27
      · skip
        exact absurd (by decide) c_8
set_option maxHeartbeats 1000000 in
theorem k_X13_kinds {l : Launch} {D : va_G} {L : Nat → Nat} {A : Nat → Prop} (x : mst) (hO : wOk (x.1 0)) (hd : isN (x.1 0 1 2) 10000) (hmk : shMk x) (s0 g : Int32) : Met l yX13_kinds (ws_ yX13_kinds cX13_kinds 4 (some .int)) ({ frames := 7, cells := 0, slots := 0, locals := 165 } : Room) (va_Pc [.ref (L 0), .int s0, .int g] (pI D (cfM D L x) A)) (jMQ D L (aM x (a_fits 0 7 (shMq x) (x.1 0) s0 g)) A (some (.int (aR (a_fits 0 7 (shMq x) (x.1 0) s0 g))))) 0 0 A := by
  refine met_I (by decide) rfl (Nat.le_of_ble_eq_true rfl) ?_
  intro p e s m below meth c ls hx hb hr hml hown hts hlocks hl hI hK
  have F : CallFix p m c cX13_kinds 4 s _ lw_all RX13 := ⟨hx, hb, hml, hown, hts⟩
  have hl : lv_has ls 4 [(0, .ref (L 0)), (1, .int s0), (2, .int g)] := hl
  have hS : va_S A s.heap s.heap [] := va_S.rf
  obtain ⟨nn, hn, h8⟩ : ∃ n, x.1 0 1 0 = nI n ∧ n ≤ 8 := ⟨_, hO.n⟩
  have hN : wN (x.1 0) = nn := by unfold wN; rw [hn, nI_clamp (by omega)]
  refine lv_aload_n hx hb dX13_kinds_0 rfl (lv_at hl 0 rfl) ?_
  refine lv_iload_n hx hb dX13_kinds_1 rfl (lv_at hl 1 rfl) ?_
  refine lv_iload_n hx hb dX13_kinds_2 rfl (lv_at hl 2 rfl) ?_
  rcases hz : shq (shMq x) s0 with kq | z
  · skip
    have hkq : kq < 7 := by rcases shq_l hz with h | h <;> omega
    refine c_r (k_V (As := [.int s0, .int g]) (rest := []) F (k_X13_whyNot_l x s0 g kq hz hkq) (cwV 2 hts (lw_V q1452 q1454 qs73 q107 q1455) rfl rfl rfl (by decide +kernel) ⟨Nat.le_of_ble_eq_true rfl, Nat.le_of_ble_eq_true rfl⟩) hI hK (hw.recv hI hK (mf_main) rfl) rfl hl.1 rfl (Nat.le_of_ble_eq_true rfl) dX13_kinds_3 ⟨Nat.le_of_ble_eq_true rfl, Nat.le_of_ble_eq_true rfl⟩) ?_
    refine lv_istore_n (lv' := [(3, .int (nI kq)), (0, .ref (L 0)), (1, .int s0), (2, .int g)]) hx hb dX13_kinds_6 rfl hl (by decide) rfl (fun ls hl => ?_)
    refine lv_iload_n hx hb dX13_kinds_7 rfl (lv_at hl 0 rfl) ?_
    refine lv_if_lt (tgt := 19) hx hb dX13_kinds_8 (by decide) (fun c_8 => ?_) (fun c_8 => ?_)
    · skip
      have c_8 : kq < 0 := (nlt (a := kq) (b := 0) (rfl) (rfl) (by omega) (by omega)).mp c_8
      exact absurd c_8 (Nat.not_lt_zero _)
    · skip
      have c_8 : ¬ kq < 0 := fun z => c_8 ((nlt (a := kq) (b := 0) (rfl) (rfl) (by omega) (by omega)).mpr z)
      refine lv_aload_n hx hb dX13_kinds_11 rfl (lv_at hl 1 rfl) ?_
      refine lv_iload_n hx hb dX13_kinds_12 rfl (lv_at hl 0 rfl) ?_
      refine c_m (k_V (As := [.int (nI kq)]) (rest := []) F (k_X13_finds x kq (by omega)) (cwV 1 hts (lw_V q1238 q1240 qs47 q107 q1241) rfl rfl rfl (by decide +kernel) ⟨Nat.le_of_ble_eq_true rfl, Nat.le_of_ble_eq_true rfl⟩) hI hK (hw.recv hI hK (mf_main) rfl) rfl hl.1 rfl (Nat.le_of_ble_eq_true rfl) dX13_kinds_13 ⟨Nat.le_of_ble_eq_true rfl, Nat.le_of_ble_eq_true rfl⟩) hS (fun H1 locs1 hI hS => ?_)
      obtain ⟨x1, ex1⟩ : ∃ z, z = (fndM x kq) := ⟨_, rfl⟩
      rw [← ex1] at hI
      refine lv_goto (tgt := 28) hx hb dX13_kinds_16 (by decide) ?_
      exact W.iret hx hb hr (fun t ht _ => ⟨rI (by rw [a_fits, hz]; first | (simp only [if_neg hg0]; rw [nI_clamp (by omega)]; rfl) | (simp only [if_pos hg0]; rfl) | (rfl)), ⟨x1, (by rw [a_fits, hz]; first | (simp only [if_neg hg0]; simp only [aM, ys_self]; assumption) | (simp only [if_pos hg0]; rw [ex1]; exact jm_rfl) | (rw [ex1]; exact jm_rfl)), by rw [ht]; exact hI⟩, hS.F ht⟩) hS.2.2 dX13_kinds_28
  · skip
    obtain ⟨sn, hs, es0, hb0, ez⟩ := shq_r hz
    obtain ⟨hbit, sz, hsz, esz⟩ := hmk sn hs
    have ez2 : z = (tOf (x.2.1 3 sn), sz, fun i => x.2.1 5 (40 * sn + i)) := by rw [ez, esz, nI_clamp (by omega)]
    subst ez2
    subst es0
    by_cases hg0 : isGlI (x.1 0) g = 0
    · skip
      refine c_r (k_V (As := [.int (nI sn), .int g]) (rest := []) F (k_X13_whyNot_g x sn g hs hb0 hg0) (cwV 2 hts (lw_V q1452 q1454 qs73 q107 q1455) rfl rfl rfl (by decide +kernel) ⟨Nat.le_of_ble_eq_true rfl, Nat.le_of_ble_eq_true rfl⟩) hI hK (hw.recv hI hK (mf_main) rfl) rfl hl.1 rfl (Nat.le_of_ble_eq_true rfl) dX13_kinds_3 ⟨Nat.le_of_ble_eq_true rfl, Nat.le_of_ble_eq_true rfl⟩) ?_
      refine lv_istore_n (lv' := [(3, .int 0), (0, .ref (L 0)), (1, .int (nI sn)), (2, .int g)]) hx hb dX13_kinds_6 rfl hl (by decide) rfl (fun ls hl => ?_)
      refine lv_iload_n hx hb dX13_kinds_7 rfl (lv_at hl 0 rfl) ?_
      refine lv_if_lt (tgt := 19) hx hb dX13_kinds_8 (by decide) (fun c_8 => ?_) (fun c_8 => ?_)
      · skip
        have c_8 : 0 < 0 := (nlt (a := 0) (b := 0) (rfl) (rfl) (by omega) (by omega)).mp c_8
        exact absurd c_8 (by decide)
      · skip
        have c_8 : ¬ 0 < 0 := fun z => c_8 ((nlt (a := 0) (b := 0) (rfl) (rfl) (by omega) (by omega)).mpr z)
        refine lv_aload_n hx hb dX13_kinds_11 rfl (lv_at hl 1 rfl) ?_
        refine lv_iload_n hx hb dX13_kinds_12 rfl (lv_at hl 0 rfl) ?_
        refine c_m (k_V (As := [.int 0]) (rest := []) F (k_X13_finds x 0 (by decide)) (cwV 1 hts (lw_V q1238 q1240 qs47 q107 q1241) rfl rfl rfl (by decide +kernel) ⟨Nat.le_of_ble_eq_true rfl, Nat.le_of_ble_eq_true rfl⟩) hI hK (hw.recv hI hK (mf_main) rfl) rfl hl.1 rfl (Nat.le_of_ble_eq_true rfl) dX13_kinds_13 ⟨Nat.le_of_ble_eq_true rfl, Nat.le_of_ble_eq_true rfl⟩) hS (fun H1 locs1 hI hS => ?_)
        obtain ⟨x2, ex2⟩ : ∃ z, z = (fndM x 0) := ⟨_, rfl⟩
        rw [← ex2] at hI
        refine lv_goto (tgt := 28) hx hb dX13_kinds_16 (by decide) ?_
        exact W.iret hx hb hr (fun t ht _ => ⟨rI (by rw [a_fits, hz]; first | (simp only [if_neg hg0]; rw [nI_clamp (by omega)]; rfl) | (simp only [if_pos hg0]; rfl) | (rfl)), ⟨x2, (by rw [a_fits, hz]; first | (simp only [if_neg hg0]; simp only [aM, ys_self]; assumption) | (simp only [if_pos hg0]; rw [ex2]; exact jm_rfl) | (rw [ex2]; exact jm_rfl)), by rw [ht]; exact hI⟩, hS.F ht⟩) hS.2.2 dX13_kinds_28
    · skip
      obtain ⟨k, hk, eg⟩ := isGl_to hn h8 hg0
      subst eg
      refine c_r (k_V (As := [.int (nI sn), .int (nI k)]) (rest := []) F (k_X13_whyNot_r x sn (nI k) hs hb0 hg0) (cwV 2 hts (lw_V q1452 q1454 qs73 q107 q1455) rfl rfl rfl (by decide +kernel) ⟨Nat.le_of_ble_eq_true rfl, Nat.le_of_ble_eq_true rfl⟩) hI hK (hw.recv hI hK (mf_main) rfl) rfl hl.1 rfl (Nat.le_of_ble_eq_true rfl) dX13_kinds_3 ⟨Nat.le_of_ble_eq_true rfl, Nat.le_of_ble_eq_true rfl⟩) ?_
      refine lv_istore_n (lv' := [(3, .int (-1)), (0, .ref (L 0)), (1, .int (nI sn)), (2, .int (nI k))]) hx hb dX13_kinds_6 rfl hl (by decide) rfl (fun ls hl => ?_)
      refine lv_iload_n hx hb dX13_kinds_7 rfl (lv_at hl 0 rfl) ?_
      refine lv_if_lt (tgt := 19) hx hb dX13_kinds_8 (by decide) (fun c_8 => ?_) (fun c_8 => ?_)
      · skip
        refine lv_aload_n hx hb dX13_kinds_19 rfl (lv_at hl 1 rfl) ?_
        refine lv_iload_n hx hb dX13_kinds_20 rfl (lv_at hl 2 rfl) ?_
        refine lv_iload_n hx hb dX13_kinds_21 rfl (lv_at hl 3 rfl) ?_
        refine lv_iconst (v := 0) hx hb dX13_kinds_22 (by decide) ?_
        refine lv_bipush (v := 6) hx hb dX13_kinds_23 (by decide) ?_
        refine c_jm (k_V (As := [.int (nI sn), .int (nI k), .int 0, .int 6]) (rest := []) F (k_X13_fitting x hO hd sn sz hs (by omega) esz k 0 6 (by omega) (by omega)) (cwV 4 hts (lw_V q1463 q1465 qs75 q107 q1466) rfl rfl rfl (by decide +kernel) ⟨Nat.le_of_ble_eq_true rfl, Nat.le_of_ble_eq_true rfl⟩) hI hK (hw.recv hI hK (mf_main) rfl) rfl hl.1 rfl (Nat.le_of_ble_eq_true rfl) dX13_kinds_25 ⟨Nat.le_of_ble_eq_true rfl, Nat.le_of_ble_eq_true rfl⟩) hS (fun x3 H1 locs1 ex3 hI hS => ?_)
        exact W.iret hx hb hr (fun t ht _ => ⟨rI (by rw [a_fits, hz]; first | (simp only [if_neg hg0]; rw [nI_clamp (by omega)]; rfl) | (simp only [if_pos hg0]; rfl) | (rfl)), ⟨x3, (by rw [a_fits, hz]; first | (simp only [if_neg hg0]; simp only [aM, ys_self]; assumption) | (simp only [if_pos hg0]; rw [ex3]; exact jm_rfl) | (rw [ex3]; exact jm_rfl)), by rw [ht]; exact hI⟩, hS.F ht⟩) hS.2.2 dX13_kinds_28
      · skip
        exact absurd (by decide) c_8
