/-! copy of a sheet; by told hands -/
theorem shb_eq {t t2 : Nat} (h : t < 3) (h2 : t2 < 3) (e : nI (shb t) = nI (shb t2)) : t = t2 := by
  match t, h, t2, h2, e with
  | 0, _, 0, _, _ => rfl
  | 0, _, 1, _, e => exact absurd e (by decide)
  | 0, _, 2, _, e => exact absurd e (by decide)
  | 1, _, 0, _, e => exact absurd e (by decide)
  | 1, _, 1, _, _ => rfl
  | 1, _, 2, _, e => exact absurd e (by decide)
  | 2, _, 0, _, e => exact absurd e (by decide)
  | 2, _, 1, _, e => exact absurd e (by decide)
  | 2, _, 2, _, _ => rfl
theorem shb_ne {t t2 : Nat} (_ : t < 3) (_ : t2 < 3) (e : ¬ nI (shb t) = nI (shb t2)) : ¬ t = t2 := fun q => e (by rw [q])
theorem cp_0a {q : Nat → shv} {s fr t to n : Int32} (h : inI s 0 3 = 0) : a_copy q s fr t to n = .inl 0 := by rw [a_copy, if_pos h]
theorem cp_0b {q : Nat → shv} {s fr t to n : Int32} (h : inI t 0 3 = 0) : a_copy q s fr t to n = .inl 0 := by rw [a_copy, if_pos h, ite_self]
theorem cp_5 {q : Nat → shv} {k k2 : Nat} {fr to n : Int32} (hk : k < 4) (hk2 : k2 < 4) (h : q k = none ∨ q k2 = none) : a_copy q (nI k) fr (nI k2) to n = .inl 5 := by
  rw [a_copy, if_neg (in03 hk), if_neg (in03 hk2), nI_clamp (by omega), nI_clamp (by omega)]
  rcases h with h | h
  · rw [h]
  · rw [h]
    cases q k <;> rfl
theorem cp_s {q : Nat → shv} {k k2 : Nat} {fr to n : Int32} {z1 z2 : Nat × Nat × (Nat → Int32)} (hk : k < 4) (hk2 : k2 < 4) (h : q k = some z1) (h2 : q k2 = some z2) : a_copy q (nI k) fr (nI k2) to n = if z1.1 = z2.1 then (if n < 0 then .inl 0 else if fr < 0 then .inl 0 else if to < 0 then .inl 0 else if nI z1.2.1 - n < fr then .inl 0 else if nI z2.2.1 - n < to then .inl 0 else .inr ((nI k).toNatClampNeg, fr.toNatClampNeg, (nI k2).toNatClampNeg, to.toNatClampNeg, n.toNatClampNeg)) else .inl 2 := by
  rw [a_copy, if_neg (in03 hk), if_neg (in03 hk2), nI_clamp (show k < 2 ^ 31 by omega), nI_clamp (show k2 < 2 ^ 31 by omega), h, h2]
theorem cp_nat {sz sz2 : Nat} {n fr to : Int32} (hn : sz ≤ 40) (hn2 : sz2 ≤ 40) (h1 : ¬ n < 0) (h2 : ¬ fr < 0) (h3 : ¬ to < 0) (h4 : ¬ nI sz - n < fr) (h5 : ¬ nI sz2 - n < to) : ∃ ν σ δ : Nat, σ + ν ≤ sz ∧ δ + ν ≤ sz2 ∧ n = nI ν ∧ fr = nI σ ∧ to = nI δ ∧ ν ≤ 40 := by
  obtain ⟨ν, e1, rfl⟩ := nI_of h1
  obtain ⟨σ, e2, rfl⟩ := nI_of h2
  obtain ⟨δ, e3, rfl⟩ := nI_of h3
  have sub : ∀ a : Nat, a ≤ 40 → (nI a - nI ν).toInt = (a : Int) - ν := by
    intro a ha
    rw [Int32.toInt_sub, nI_toInt (by omega), nI_toInt e1]
    have : (-2147483648 : Int) ≤ (a : Int) - ν ∧ (a : Int) - ν < 2147483648 := by omega
    rw [Int.bmod_def]
    show (if ((a : Int) - ν) % 4294967296 < (4294967296 + 1) / 2 then _ else _) = _
    split <;> omega
  rw [Int32.lt_iff_toInt_lt, sub _ hn, nI_toInt e2] at h4
  rw [Int32.lt_iff_toInt_lt, sub _ hn2, nI_toInt e3] at h5
  exact ⟨ν, σ, δ, by omega, by omega, rfl, rfl, rfl, by omega⟩
set_option maxHeartbeats 4000000 in
theorem k_X0_copy {l : Launch} {D : va_G} {L : Nat → Nat} {A : Nat → Prop} (x : cst) (hsh : shOk2 x) (s0 fr t0 to n : Int32) : Met l yX0_copy (wsW_ yX0_copy cX0_copy 8 (some .int) [((0 : Nat), (120 : Nat), (121 : Nat), (62 : Nat))]) ({ frames := 3, cells := 0, slots := 0, locals := 64 } : Room) (va_Pc [.ref (L 44), .int s0, .int fr, .int t0, .int to, .int n] (pI D (cfC D L x) A)) (jQ D L (aCP x (a_copy (shC x) s0 fr t0 to n)) A (some (.int (aW (fun _ => n) (a_copy (shC x) s0 fr t0 to n))))) 0 0 A := by
  refine met_W (by decide) rfl (Nat.le_of_ble_eq_true rfl) ?_
  intro p e s m below meth c ls hx hb hr hml hown hts hlocks hl hI hK hhh
  have F : CallFix p m c cX0_copy 8 s _ lw_all RX0 := ⟨hx, hb, hml, hown, hts⟩
  have hl : lv_has ls 8 [(0, .ref (L 44)), (1, .int s0), (2, .int fr), (3, .int t0), (4, .int to), (5, .int n)] := hl
  have hS : va_S A s.heap s.heap [] := va_S.rf
  refine lv_aload_n hx hb dX0_copy_0 rfl (lv_at hl 0 rfl) ?_
  refine lv_iload_n hx hb dX0_copy_1 rfl (lv_at hl 1 rfl) ?_
  by_cases r_2 : inI s0 0 3 = 0
  · skip
    obtain ⟨x1, ex1⟩ : ∃ z, z = xr x 4 0 (nI 0) := ⟨_, rfl⟩
    refine x_catch (cf' := cfC D L x1) (by rw [ex1]; exact (k_X (n := 1) (As := [.int s0]) (rest := []) F (k_X0_rowAt_t x s0 r_2) ⟨rfl, rfl⟩ ⟨Nat.le_of_ble_eq_true rfl, Nat.le_of_ble_eq_true rfl⟩ q878 q880 qs24 q91 q881 (by decide +kernel) hI hK (hw.recv hI hK (cf_main) rfl) rfl hl.1 rfl (Nat.le_of_ble_eq_true rfl) dX0_copy_2 ⟨Nat.le_of_ble_eq_true rfl, Nat.le_of_ble_eq_true rfl⟩)) hS hown (hts _ q123) hhh (by decide) (by decide) (by decide) hK (ci := 1) rfl rfl (cf_refusal) (fun H1 locs1 hI hS => ?_)
    have hf_2 : x1.2.1 4 0 = nI 0 := by rw [ex1]; exact xr_at _ 4 0 _
    refine lv_astore (lv' := [(6, .ref (L 45)), (0, .ref (L 44)), (1, .int s0), (2, .int fr), (3, .int t0), (4, .int to), (5, .int n)]) hx hb dX0_copy_121 hl (by decide) rfl (fun ls hl => ?_)
    refine lv_aload_n hx hb dX0_copy_123 rfl (lv_at hl 1 rfl) ?_
    refine lv_aload hx hb dX0_copy_124 (lv_at hl 0 rfl) ?_
    refine r_getN (C := RX1) (T := TX1) (N := 7) hx hb hts in_X1 hown hK hI (cf_refusal) rfl 6 (by decide) (nf_0 hK) (fun _ h => h) rfl dX0_copy_126 ?_
    rw [hf_2]
    refine c_m (k_V (As := [.int (nI 0)]) (rest := []) F (k_X0_finding x1 0 (by decide)) (cwV 1 hts (lw_V q457 q459 qs2 q91 q460) rfl rfl rfl (by decide +kernel) ⟨Nat.le_of_ble_eq_true rfl, Nat.le_of_ble_eq_true rfl⟩) hI hK (hw.recv hI hK (cf_main) rfl) rfl hl.1 rfl (Nat.le_of_ble_eq_true rfl) dX0_copy_129 ⟨Nat.le_of_ble_eq_true rfl, Nat.le_of_ble_eq_true rfl⟩) hS (fun H1 locs1 hI hS => ?_)
    obtain ⟨x3, ex3⟩ : ∃ z, z = (fnd x1 0) := ⟨_, rfl⟩
    rw [← ex3] at hI
    exact W.iret hx hb hr (fun t ht _ => ⟨rI (by first | (rw [cp_0a r_2]; rfl) | (rw [cp_0b r_9]; rfl) | (rw [cp_5 hs hs2 (by first | exact Or.inl (shC_n hq) | exact Or.inr (shC_n hq2))]; rfl) | (rw [cp_s hs hs2 (shC_s hq) (shC_s hq2)]; simp only [if_neg (shb_ne hk3 hk32 c_45)]; rfl) | (rw [cp_s hs hs2 (shC_s hq) (shC_s hq2)]; simp only [if_pos (shb_eq hk3 hk32 c_45), if_pos c_60]; rfl) | (rw [cp_s hs hs2 (shC_s hq) (shC_s hq2)]; simp only [if_pos (shb_eq hk3 hk32 c_45), if_neg c_60, if_pos c_64]; rfl) | (rw [cp_s hs hs2 (shC_s hq) (shC_s hq2)]; simp only [if_pos (shb_eq hk3 hk32 c_45), if_neg c_60, if_neg c_64, if_pos c_69]; rfl) | (rw [cp_s hs hs2 (shC_s hq) (shC_s hq2)]; simp only [if_pos (shb_eq hk3 hk32 c_45), if_neg c_60, if_neg c_64, if_neg c_69, if_pos c_81]; rfl) | (rw [cp_s hs hs2 (shC_s hq) (shC_s hq2)]; simp only [if_pos (shb_eq hk3 hk32 c_45), if_neg c_60, if_neg c_64, if_neg c_69, if_neg c_81, if_pos c_94]; rfl)), ⟨x3, (by first | (rw [cp_0a r_2]; rw [ex3, ex1]; exact jk_fr _ _ _) | (rw [cp_0b r_9]; rw [ex3, ex1]; exact jk_fr _ _ _) | (rw [cp_5 hs hs2 (by first | exact Or.inl (shC_n hq) | exact Or.inr (shC_n hq2))]; rw [ex3, ex1]; exact jk_fr _ _ _) | (rw [cp_s hs hs2 (shC_s hq) (shC_s hq2)]; simp only [if_neg (shb_ne hk3 hk32 c_45)]; rw [ex3, ex1]; exact jk_fr _ _ _) | (rw [cp_s hs hs2 (shC_s hq) (shC_s hq2)]; simp only [if_pos (shb_eq hk3 hk32 c_45), if_pos c_60]; rw [ex3, ex1]; exact jk_fr _ _ _) | (rw [cp_s hs hs2 (shC_s hq) (shC_s hq2)]; simp only [if_pos (shb_eq hk3 hk32 c_45), if_neg c_60, if_pos c_64]; rw [ex3, ex1]; exact jk_fr _ _ _) | (rw [cp_s hs hs2 (shC_s hq) (shC_s hq2)]; simp only [if_pos (shb_eq hk3 hk32 c_45), if_neg c_60, if_neg c_64, if_pos c_69]; rw [ex3, ex1]; exact jk_fr _ _ _) | (rw [cp_s hs hs2 (shC_s hq) (shC_s hq2)]; simp only [if_pos (shb_eq hk3 hk32 c_45), if_neg c_60, if_neg c_64, if_neg c_69, if_pos c_81]; rw [ex3, ex1]; exact jk_fr _ _ _) | (rw [cp_s hs hs2 (shC_s hq) (shC_s hq2)]; simp only [if_pos (shb_eq hk3 hk32 c_45), if_neg c_60, if_neg c_64, if_neg c_69, if_neg c_81, if_pos c_94]; rw [ex3, ex1]; exact jk_fr _ _ _)), by rw [ht]; exact hI⟩, hS.F ht⟩) hS.2.2 dX0_copy_132
  · skip
    obtain ⟨sn, hs, es0⟩ := inI_to (b := 3) rfl (by decide) r_2
    have hs : sn < 4 := by omega
    subst es0
    rcases hq : x.2.2.2 sn with _ | ⟨sa, t, sz, sg⟩
    · skip
      refine c_m (k_V (As := [.int (nI sn)]) (rest := []) F (k_X0_rowAt_n x sn hs hq) (cwV 1 hts (lw_V q878 q880 qs24 q91 q881) rfl rfl rfl (by decide +kernel) ⟨Nat.le_of_ble_eq_true rfl, Nat.le_of_ble_eq_true rfl⟩) hI hK (hw.recv hI hK (cf_main) rfl) rfl hl.1 rfl (Nat.le_of_ble_eq_true rfl) dX0_copy_2 ⟨Nat.le_of_ble_eq_true rfl, Nat.le_of_ble_eq_true rfl⟩) hS (fun H1 locs1 hI hS => ?_)
      refine lv_astoreN (lv' := [(6, .null), (0, .ref (L 44)), (1, .int (nI sn)), (2, .int fr), (3, .int t0), (4, .int to), (5, .int n)]) hx hb dX0_copy_5 hl (by decide) rfl (fun ls hl => ?_)
      refine lv_aload_n hx hb dX0_copy_7 rfl (lv_at hl 1 rfl) ?_
      refine lv_iload_n hx hb dX0_copy_8 rfl (lv_at hl 4 rfl) ?_
      by_cases r_9 : inI t0 0 3 = 0
      · skip
        obtain ⟨x4, ex4⟩ : ∃ z, z = xr x 4 0 (nI 0) := ⟨_, rfl⟩
        refine x_catch (cf' := cfC D L x4) (by rw [ex4]; exact (k_X (n := 1) (As := [.int t0]) (rest := []) F (k_X0_rowAt_t x t0 r_9) ⟨rfl, rfl⟩ ⟨Nat.le_of_ble_eq_true rfl, Nat.le_of_ble_eq_true rfl⟩ q878 q880 qs24 q91 q881 (by decide +kernel) hI hK (hw.recv hI hK (cf_main) rfl) rfl hl.1 rfl (Nat.le_of_ble_eq_true rfl) dX0_copy_9 ⟨Nat.le_of_ble_eq_true rfl, Nat.le_of_ble_eq_true rfl⟩)) hS hown (hts _ q123) hhh (by decide) (by decide) (by decide) hK (ci := 1) rfl rfl (cf_refusal) (fun H1 locs1 hI hS => ?_)
        have hf_5 : x4.2.1 4 0 = nI 0 := by rw [ex4]; exact xr_at _ 4 0 _
        refine lv_astore (lv' := [(6, .ref (L 45)), (0, .ref (L 44)), (1, .int (nI sn)), (2, .int fr), (3, .int t0), (4, .int to), (5, .int n)]) hx hb dX0_copy_121 hl (by decide) rfl (fun ls hl => ?_)
        refine lv_aload_n hx hb dX0_copy_123 rfl (lv_at hl 1 rfl) ?_
        refine lv_aload hx hb dX0_copy_124 (lv_at hl 0 rfl) ?_
        refine r_getN (C := RX1) (T := TX1) (N := 7) hx hb hts in_X1 hown hK hI (cf_refusal) rfl 6 (by decide) (nf_0 hK) (fun _ h => h) rfl dX0_copy_126 ?_
        rw [hf_5]
        refine c_m (k_V (As := [.int (nI 0)]) (rest := []) F (k_X0_finding x4 0 (by decide)) (cwV 1 hts (lw_V q457 q459 qs2 q91 q460) rfl rfl rfl (by decide +kernel) ⟨Nat.le_of_ble_eq_true rfl, Nat.le_of_ble_eq_true rfl⟩) hI hK (hw.recv hI hK (cf_main) rfl) rfl hl.1 rfl (Nat.le_of_ble_eq_true rfl) dX0_copy_129 ⟨Nat.le_of_ble_eq_true rfl, Nat.le_of_ble_eq_true rfl⟩) hS (fun H1 locs1 hI hS => ?_)
        obtain ⟨x6, ex6⟩ : ∃ z, z = (fnd x4 0) := ⟨_, rfl⟩
        rw [← ex6] at hI
        exact W.iret hx hb hr (fun t ht _ => ⟨rI (by first | (rw [cp_0a r_2]; rfl) | (rw [cp_0b r_9]; rfl) | (rw [cp_5 hs hs2 (by first | exact Or.inl (shC_n hq) | exact Or.inr (shC_n hq2))]; rfl) | (rw [cp_s hs hs2 (shC_s hq) (shC_s hq2)]; simp only [if_neg (shb_ne hk3 hk32 c_45)]; rfl) | (rw [cp_s hs hs2 (shC_s hq) (shC_s hq2)]; simp only [if_pos (shb_eq hk3 hk32 c_45), if_pos c_60]; rfl) | (rw [cp_s hs hs2 (shC_s hq) (shC_s hq2)]; simp only [if_pos (shb_eq hk3 hk32 c_45), if_neg c_60, if_pos c_64]; rfl) | (rw [cp_s hs hs2 (shC_s hq) (shC_s hq2)]; simp only [if_pos (shb_eq hk3 hk32 c_45), if_neg c_60, if_neg c_64, if_pos c_69]; rfl) | (rw [cp_s hs hs2 (shC_s hq) (shC_s hq2)]; simp only [if_pos (shb_eq hk3 hk32 c_45), if_neg c_60, if_neg c_64, if_neg c_69, if_pos c_81]; rfl) | (rw [cp_s hs hs2 (shC_s hq) (shC_s hq2)]; simp only [if_pos (shb_eq hk3 hk32 c_45), if_neg c_60, if_neg c_64, if_neg c_69, if_neg c_81, if_pos c_94]; rfl)), ⟨x6, (by first | (rw [cp_0a r_2]; rw [ex6, ex4]; exact jk_fr _ _ _) | (rw [cp_0b r_9]; rw [ex6, ex4]; exact jk_fr _ _ _) | (rw [cp_5 hs hs2 (by first | exact Or.inl (shC_n hq) | exact Or.inr (shC_n hq2))]; rw [ex6, ex4]; exact jk_fr _ _ _) | (rw [cp_s hs hs2 (shC_s hq) (shC_s hq2)]; simp only [if_neg (shb_ne hk3 hk32 c_45)]; rw [ex6, ex4]; exact jk_fr _ _ _) | (rw [cp_s hs hs2 (shC_s hq) (shC_s hq2)]; simp only [if_pos (shb_eq hk3 hk32 c_45), if_pos c_60]; rw [ex6, ex4]; exact jk_fr _ _ _) | (rw [cp_s hs hs2 (shC_s hq) (shC_s hq2)]; simp only [if_pos (shb_eq hk3 hk32 c_45), if_neg c_60, if_pos c_64]; rw [ex6, ex4]; exact jk_fr _ _ _) | (rw [cp_s hs hs2 (shC_s hq) (shC_s hq2)]; simp only [if_pos (shb_eq hk3 hk32 c_45), if_neg c_60, if_neg c_64, if_pos c_69]; rw [ex6, ex4]; exact jk_fr _ _ _) | (rw [cp_s hs hs2 (shC_s hq) (shC_s hq2)]; simp only [if_pos (shb_eq hk3 hk32 c_45), if_neg c_60, if_neg c_64, if_neg c_69, if_pos c_81]; rw [ex6, ex4]; exact jk_fr _ _ _) | (rw [cp_s hs hs2 (shC_s hq) (shC_s hq2)]; simp only [if_pos (shb_eq hk3 hk32 c_45), if_neg c_60, if_neg c_64, if_neg c_69, if_neg c_81, if_pos c_94]; rw [ex6, ex4]; exact jk_fr _ _ _)), by rw [ht]; exact hI⟩, hS.F ht⟩) hS.2.2 dX0_copy_132
      · skip
        obtain ⟨sn2, hs2, et0⟩ := inI_to (b := 3) rfl (by decide) r_9
        have hs2 : sn2 < 4 := by omega
        subst et0
        rcases hq2 : x.2.2.2 sn2 with _ | ⟨sa2, t2, sz2, sg2⟩
        · skip
          refine c_m (k_V (As := [.int (nI sn2)]) (rest := []) F (k_X0_rowAt_n x sn2 hs2 hq2) (cwV 1 hts (lw_V q878 q880 qs24 q91 q881) rfl rfl rfl (by decide +kernel) ⟨Nat.le_of_ble_eq_true rfl, Nat.le_of_ble_eq_true rfl⟩) hI hK (hw.recv hI hK (cf_main) rfl) rfl hl.1 rfl (Nat.le_of_ble_eq_true rfl) dX0_copy_9 ⟨Nat.le_of_ble_eq_true rfl, Nat.le_of_ble_eq_true rfl⟩) hS (fun H1 locs1 hI hS => ?_)
          refine lv_astoreN (lv' := [(7, .null), (6, .null), (0, .ref (L 44)), (1, .int (nI sn)), (2, .int fr), (3, .int (nI sn2)), (4, .int to), (5, .int n)]) hx hb dX0_copy_12 hl (by decide) rfl (fun ls hl => ?_)
          refine lv_aload_n hx hb dX0_copy_14 rfl (lv_at hl 2 rfl) ?_
          refine lv_aloadN hx hb dX0_copy_15 (lv_at hl 1 rfl) ?_
          refine lv_ifnullN (tgt := 29) hx hb dX0_copy_17 (by decide) ?_
          refine lv_iconst (v := 0) hx hb dX0_copy_29 (by decide) ?_
          refine lv_iconst (v := 5) hx hb dX0_copy_30 (by decide) ?_
          obtain ⟨x7, ex7⟩ : ∃ z, z = xr x 4 0 (nI 5) := ⟨_, rfl⟩
          refine x_catch (cf' := cfC D L x7) (by rw [ex7]; exact (k_X (n := 2) (As := [.int 0, .int 5]) (rest := []) F (k_X0_need_thr x 0 5 (rfl)) ⟨rfl, rfl⟩ ⟨Nat.le_of_ble_eq_true rfl, Nat.le_of_ble_eq_true rfl⟩ q885 q887 qs25 q91 q888 (by decide +kernel) hI hK (hw.recv hI hK (cf_main) rfl) rfl hl.1 rfl (Nat.le_of_ble_eq_true rfl) dX0_copy_31 ⟨Nat.le_of_ble_eq_true rfl, Nat.le_of_ble_eq_true rfl⟩)) hS hown (hts _ q123) hhh (by decide) (by decide) (by decide) hK (ci := 1) rfl rfl (cf_refusal) (fun H1 locs1 hI hS => ?_)
          have hf_8 : x7.2.1 4 0 = nI 5 := by rw [ex7]; exact xr_at _ 4 0 _
          refine lv_astore (lv' := [(6, .ref (L 45)), (7, .null), (0, .ref (L 44)), (1, .int (nI sn)), (2, .int fr), (3, .int (nI sn2)), (4, .int to), (5, .int n)]) hx hb dX0_copy_121 hl (by decide) rfl (fun ls hl => ?_)
          refine lv_aload_n hx hb dX0_copy_123 rfl (lv_at hl 2 rfl) ?_
          refine lv_aload hx hb dX0_copy_124 (lv_at hl 0 rfl) ?_
          refine r_getN (C := RX1) (T := TX1) (N := 7) hx hb hts in_X1 hown hK hI (cf_refusal) rfl 6 (by decide) (nf_0 hK) (fun _ h => h) rfl dX0_copy_126 ?_
          rw [hf_8]
          refine c_m (k_V (As := [.int (nI 5)]) (rest := []) F (k_X0_finding x7 5 (by decide)) (cwV 1 hts (lw_V q457 q459 qs2 q91 q460) rfl rfl rfl (by decide +kernel) ⟨Nat.le_of_ble_eq_true rfl, Nat.le_of_ble_eq_true rfl⟩) hI hK (hw.recv hI hK (cf_main) rfl) rfl hl.1 rfl (Nat.le_of_ble_eq_true rfl) dX0_copy_129 ⟨Nat.le_of_ble_eq_true rfl, Nat.le_of_ble_eq_true rfl⟩) hS (fun H1 locs1 hI hS => ?_)
          obtain ⟨x9, ex9⟩ : ∃ z, z = (fnd x7 5) := ⟨_, rfl⟩
          rw [← ex9] at hI
          exact W.iret hx hb hr (fun t ht _ => ⟨rI (by first | (rw [cp_0a r_2]; rfl) | (rw [cp_0b r_9]; rfl) | (rw [cp_5 hs hs2 (by first | exact Or.inl (shC_n hq) | exact Or.inr (shC_n hq2))]; rfl) | (rw [cp_s hs hs2 (shC_s hq) (shC_s hq2)]; simp only [if_neg (shb_ne hk3 hk32 c_45)]; rfl) | (rw [cp_s hs hs2 (shC_s hq) (shC_s hq2)]; simp only [if_pos (shb_eq hk3 hk32 c_45), if_pos c_60]; rfl) | (rw [cp_s hs hs2 (shC_s hq) (shC_s hq2)]; simp only [if_pos (shb_eq hk3 hk32 c_45), if_neg c_60, if_pos c_64]; rfl) | (rw [cp_s hs hs2 (shC_s hq) (shC_s hq2)]; simp only [if_pos (shb_eq hk3 hk32 c_45), if_neg c_60, if_neg c_64, if_pos c_69]; rfl) | (rw [cp_s hs hs2 (shC_s hq) (shC_s hq2)]; simp only [if_pos (shb_eq hk3 hk32 c_45), if_neg c_60, if_neg c_64, if_neg c_69, if_pos c_81]; rfl) | (rw [cp_s hs hs2 (shC_s hq) (shC_s hq2)]; simp only [if_pos (shb_eq hk3 hk32 c_45), if_neg c_60, if_neg c_64, if_neg c_69, if_neg c_81, if_pos c_94]; rfl)), ⟨x9, (by first | (rw [cp_0a r_2]; rw [ex9, ex7]; exact jk_fr _ _ _) | (rw [cp_0b r_9]; rw [ex9, ex7]; exact jk_fr _ _ _) | (rw [cp_5 hs hs2 (by first | exact Or.inl (shC_n hq) | exact Or.inr (shC_n hq2))]; rw [ex9, ex7]; exact jk_fr _ _ _) | (rw [cp_s hs hs2 (shC_s hq) (shC_s hq2)]; simp only [if_neg (shb_ne hk3 hk32 c_45)]; rw [ex9, ex7]; exact jk_fr _ _ _) | (rw [cp_s hs hs2 (shC_s hq) (shC_s hq2)]; simp only [if_pos (shb_eq hk3 hk32 c_45), if_pos c_60]; rw [ex9, ex7]; exact jk_fr _ _ _) | (rw [cp_s hs hs2 (shC_s hq) (shC_s hq2)]; simp only [if_pos (shb_eq hk3 hk32 c_45), if_neg c_60, if_pos c_64]; rw [ex9, ex7]; exact jk_fr _ _ _) | (rw [cp_s hs hs2 (shC_s hq) (shC_s hq2)]; simp only [if_pos (shb_eq hk3 hk32 c_45), if_neg c_60, if_neg c_64, if_pos c_69]; rw [ex9, ex7]; exact jk_fr _ _ _) | (rw [cp_s hs hs2 (shC_s hq) (shC_s hq2)]; simp only [if_pos (shb_eq hk3 hk32 c_45), if_neg c_60, if_neg c_64, if_neg c_69, if_pos c_81]; rw [ex9, ex7]; exact jk_fr _ _ _) | (rw [cp_s hs hs2 (shC_s hq) (shC_s hq2)]; simp only [if_pos (shb_eq hk3 hk32 c_45), if_neg c_60, if_neg c_64, if_neg c_69, if_neg c_81, if_pos c_94]; rw [ex9, ex7]; exact jk_fr _ _ _)), by rw [ht]; exact hI⟩, hS.F ht⟩) hS.2.2 dX0_copy_132
        · skip
          obtain ⟨hk32, hn2, hsg2⟩ := hsh sn2 hs2 _ _ _ _ hq2
          refine c_m (k_V (As := [.int (nI sn2)]) (rest := []) F (k_X0_rowAt_r x sn2 hs2 sa2 t2 sz2 sg2 hq2) (cwV 1 hts (lw_V q878 q880 qs24 q91 q881) rfl rfl rfl (by decide +kernel) ⟨Nat.le_of_ble_eq_true rfl, Nat.le_of_ble_eq_true rfl⟩) hI hK (hw.recv hI hK (cf_main) rfl) rfl hl.1 rfl (Nat.le_of_ble_eq_true rfl) dX0_copy_9 ⟨Nat.le_of_ble_eq_true rfl, Nat.le_of_ble_eq_true rfl⟩) hS (fun H1 locs1 hI hS => ?_)
          refine lv_astore (lv' := [(7, .ref sa2), (6, .null), (0, .ref (L 44)), (1, .int (nI sn)), (2, .int fr), (3, .int (nI sn2)), (4, .int to), (5, .int n)]) hx hb dX0_copy_12 hl (by decide) rfl (fun ls hl => ?_)
          refine lv_aload_n hx hb dX0_copy_14 rfl (lv_at hl 2 rfl) ?_
          refine lv_aloadN hx hb dX0_copy_15 (lv_at hl 1 rfl) ?_
          refine lv_ifnullN (tgt := 29) hx hb dX0_copy_17 (by decide) ?_
          refine lv_iconst (v := 0) hx hb dX0_copy_29 (by decide) ?_
          refine lv_iconst (v := 5) hx hb dX0_copy_30 (by decide) ?_
          obtain ⟨x10, ex10⟩ : ∃ z, z = xr x 4 0 (nI 5) := ⟨_, rfl⟩
          refine x_catch (cf' := cfC D L x10) (by rw [ex10]; exact (k_X (n := 2) (As := [.int 0, .int 5]) (rest := []) F (k_X0_need_thr x 0 5 (rfl)) ⟨rfl, rfl⟩ ⟨Nat.le_of_ble_eq_true rfl, Nat.le_of_ble_eq_true rfl⟩ q885 q887 qs25 q91 q888 (by decide +kernel) hI hK (hw.recv hI hK (cf_main) rfl) rfl hl.1 rfl (Nat.le_of_ble_eq_true rfl) dX0_copy_31 ⟨Nat.le_of_ble_eq_true rfl, Nat.le_of_ble_eq_true rfl⟩)) hS hown (hts _ q123) hhh (by decide) (by decide) (by decide) hK (ci := 1) rfl rfl (cf_refusal) (fun H1 locs1 hI hS => ?_)
          have hf_11 : x10.2.1 4 0 = nI 5 := by rw [ex10]; exact xr_at _ 4 0 _
          refine lv_astore (lv' := [(6, .ref (L 45)), (7, .ref sa2), (0, .ref (L 44)), (1, .int (nI sn)), (2, .int fr), (3, .int (nI sn2)), (4, .int to), (5, .int n)]) hx hb dX0_copy_121 hl (by decide) rfl (fun ls hl => ?_)
          refine lv_aload_n hx hb dX0_copy_123 rfl (lv_at hl 2 rfl) ?_
          refine lv_aload hx hb dX0_copy_124 (lv_at hl 0 rfl) ?_
          refine r_getN (C := RX1) (T := TX1) (N := 7) hx hb hts in_X1 hown hK hI (cf_refusal) rfl 6 (by decide) (nf_0 hK) (fun _ h => h) rfl dX0_copy_126 ?_
          rw [hf_11]
          refine c_m (k_V (As := [.int (nI 5)]) (rest := []) F (k_X0_finding x10 5 (by decide)) (cwV 1 hts (lw_V q457 q459 qs2 q91 q460) rfl rfl rfl (by decide +kernel) ⟨Nat.le_of_ble_eq_true rfl, Nat.le_of_ble_eq_true rfl⟩) hI hK (hw.recv hI hK (cf_main) rfl) rfl hl.1 rfl (Nat.le_of_ble_eq_true rfl) dX0_copy_129 ⟨Nat.le_of_ble_eq_true rfl, Nat.le_of_ble_eq_true rfl⟩) hS (fun H1 locs1 hI hS => ?_)
          obtain ⟨x12, ex12⟩ : ∃ z, z = (fnd x10 5) := ⟨_, rfl⟩
          rw [← ex12] at hI
          exact W.iret hx hb hr (fun t ht _ => ⟨rI (by first | (rw [cp_0a r_2]; rfl) | (rw [cp_0b r_9]; rfl) | (rw [cp_5 hs hs2 (by first | exact Or.inl (shC_n hq) | exact Or.inr (shC_n hq2))]; rfl) | (rw [cp_s hs hs2 (shC_s hq) (shC_s hq2)]; simp only [if_neg (shb_ne hk3 hk32 c_45)]; rfl) | (rw [cp_s hs hs2 (shC_s hq) (shC_s hq2)]; simp only [if_pos (shb_eq hk3 hk32 c_45), if_pos c_60]; rfl) | (rw [cp_s hs hs2 (shC_s hq) (shC_s hq2)]; simp only [if_pos (shb_eq hk3 hk32 c_45), if_neg c_60, if_pos c_64]; rfl) | (rw [cp_s hs hs2 (shC_s hq) (shC_s hq2)]; simp only [if_pos (shb_eq hk3 hk32 c_45), if_neg c_60, if_neg c_64, if_pos c_69]; rfl) | (rw [cp_s hs hs2 (shC_s hq) (shC_s hq2)]; simp only [if_pos (shb_eq hk3 hk32 c_45), if_neg c_60, if_neg c_64, if_neg c_69, if_pos c_81]; rfl) | (rw [cp_s hs hs2 (shC_s hq) (shC_s hq2)]; simp only [if_pos (shb_eq hk3 hk32 c_45), if_neg c_60, if_neg c_64, if_neg c_69, if_neg c_81, if_pos c_94]; rfl)), ⟨x12, (by first | (rw [cp_0a r_2]; rw [ex12, ex10]; exact jk_fr _ _ _) | (rw [cp_0b r_9]; rw [ex12, ex10]; exact jk_fr _ _ _) | (rw [cp_5 hs hs2 (by first | exact Or.inl (shC_n hq) | exact Or.inr (shC_n hq2))]; rw [ex12, ex10]; exact jk_fr _ _ _) | (rw [cp_s hs hs2 (shC_s hq) (shC_s hq2)]; simp only [if_neg (shb_ne hk3 hk32 c_45)]; rw [ex12, ex10]; exact jk_fr _ _ _) | (rw [cp_s hs hs2 (shC_s hq) (shC_s hq2)]; simp only [if_pos (shb_eq hk3 hk32 c_45), if_pos c_60]; rw [ex12, ex10]; exact jk_fr _ _ _) | (rw [cp_s hs hs2 (shC_s hq) (shC_s hq2)]; simp only [if_pos (shb_eq hk3 hk32 c_45), if_neg c_60, if_pos c_64]; rw [ex12, ex10]; exact jk_fr _ _ _) | (rw [cp_s hs hs2 (shC_s hq) (shC_s hq2)]; simp only [if_pos (shb_eq hk3 hk32 c_45), if_neg c_60, if_neg c_64, if_pos c_69]; rw [ex12, ex10]; exact jk_fr _ _ _) | (rw [cp_s hs hs2 (shC_s hq) (shC_s hq2)]; simp only [if_pos (shb_eq hk3 hk32 c_45), if_neg c_60, if_neg c_64, if_neg c_69, if_pos c_81]; rw [ex12, ex10]; exact jk_fr _ _ _) | (rw [cp_s hs hs2 (shC_s hq) (shC_s hq2)]; simp only [if_pos (shb_eq hk3 hk32 c_45), if_neg c_60, if_neg c_64, if_neg c_69, if_neg c_81, if_pos c_94]; rw [ex12, ex10]; exact jk_fr _ _ _)), by rw [ht]; exact hI⟩, hS.F ht⟩) hS.2.2 dX0_copy_132
    · skip
      obtain ⟨hk3, hn, hsg⟩ := hsh sn hs _ _ _ _ hq
      refine c_m (k_V (As := [.int (nI sn)]) (rest := []) F (k_X0_rowAt_r x sn hs sa t sz sg hq) (cwV 1 hts (lw_V q878 q880 qs24 q91 q881) rfl rfl rfl (by decide +kernel) ⟨Nat.le_of_ble_eq_true rfl, Nat.le_of_ble_eq_true rfl⟩) hI hK (hw.recv hI hK (cf_main) rfl) rfl hl.1 rfl (Nat.le_of_ble_eq_true rfl) dX0_copy_2 ⟨Nat.le_of_ble_eq_true rfl, Nat.le_of_ble_eq_true rfl⟩) hS (fun H1 locs1 hI hS => ?_)
      refine lv_astore (lv' := [(6, .ref sa), (0, .ref (L 44)), (1, .int (nI sn)), (2, .int fr), (3, .int t0), (4, .int to), (5, .int n)]) hx hb dX0_copy_5 hl (by decide) rfl (fun ls hl => ?_)
      refine lv_aload_n hx hb dX0_copy_7 rfl (lv_at hl 1 rfl) ?_
      refine lv_iload_n hx hb dX0_copy_8 rfl (lv_at hl 4 rfl) ?_
      by_cases r_9 : inI t0 0 3 = 0
      · skip
        obtain ⟨x13, ex13⟩ : ∃ z, z = xr x 4 0 (nI 0) := ⟨_, rfl⟩
        refine x_catch (cf' := cfC D L x13) (by rw [ex13]; exact (k_X (n := 1) (As := [.int t0]) (rest := []) F (k_X0_rowAt_t x t0 r_9) ⟨rfl, rfl⟩ ⟨Nat.le_of_ble_eq_true rfl, Nat.le_of_ble_eq_true rfl⟩ q878 q880 qs24 q91 q881 (by decide +kernel) hI hK (hw.recv hI hK (cf_main) rfl) rfl hl.1 rfl (Nat.le_of_ble_eq_true rfl) dX0_copy_9 ⟨Nat.le_of_ble_eq_true rfl, Nat.le_of_ble_eq_true rfl⟩)) hS hown (hts _ q123) hhh (by decide) (by decide) (by decide) hK (ci := 1) rfl rfl (cf_refusal) (fun H1 locs1 hI hS => ?_)
        have hf_14 : x13.2.1 4 0 = nI 0 := by rw [ex13]; exact xr_at _ 4 0 _
        refine lv_astore (lv' := [(6, .ref (L 45)), (0, .ref (L 44)), (1, .int (nI sn)), (2, .int fr), (3, .int t0), (4, .int to), (5, .int n)]) hx hb dX0_copy_121 hl (by decide) rfl (fun ls hl => ?_)
        refine lv_aload_n hx hb dX0_copy_123 rfl (lv_at hl 1 rfl) ?_
        refine lv_aload hx hb dX0_copy_124 (lv_at hl 0 rfl) ?_
        refine r_getN (C := RX1) (T := TX1) (N := 7) hx hb hts in_X1 hown hK hI (cf_refusal) rfl 6 (by decide) (nf_0 hK) (fun _ h => h) rfl dX0_copy_126 ?_
        rw [hf_14]
        refine c_m (k_V (As := [.int (nI 0)]) (rest := []) F (k_X0_finding x13 0 (by decide)) (cwV 1 hts (lw_V q457 q459 qs2 q91 q460) rfl rfl rfl (by decide +kernel) ⟨Nat.le_of_ble_eq_true rfl, Nat.le_of_ble_eq_true rfl⟩) hI hK (hw.recv hI hK (cf_main) rfl) rfl hl.1 rfl (Nat.le_of_ble_eq_true rfl) dX0_copy_129 ⟨Nat.le_of_ble_eq_true rfl, Nat.le_of_ble_eq_true rfl⟩) hS (fun H1 locs1 hI hS => ?_)
        obtain ⟨x15, ex15⟩ : ∃ z, z = (fnd x13 0) := ⟨_, rfl⟩
        rw [← ex15] at hI
        exact W.iret hx hb hr (fun t ht _ => ⟨rI (by first | (rw [cp_0a r_2]; rfl) | (rw [cp_0b r_9]; rfl) | (rw [cp_5 hs hs2 (by first | exact Or.inl (shC_n hq) | exact Or.inr (shC_n hq2))]; rfl) | (rw [cp_s hs hs2 (shC_s hq) (shC_s hq2)]; simp only [if_neg (shb_ne hk3 hk32 c_45)]; rfl) | (rw [cp_s hs hs2 (shC_s hq) (shC_s hq2)]; simp only [if_pos (shb_eq hk3 hk32 c_45), if_pos c_60]; rfl) | (rw [cp_s hs hs2 (shC_s hq) (shC_s hq2)]; simp only [if_pos (shb_eq hk3 hk32 c_45), if_neg c_60, if_pos c_64]; rfl) | (rw [cp_s hs hs2 (shC_s hq) (shC_s hq2)]; simp only [if_pos (shb_eq hk3 hk32 c_45), if_neg c_60, if_neg c_64, if_pos c_69]; rfl) | (rw [cp_s hs hs2 (shC_s hq) (shC_s hq2)]; simp only [if_pos (shb_eq hk3 hk32 c_45), if_neg c_60, if_neg c_64, if_neg c_69, if_pos c_81]; rfl) | (rw [cp_s hs hs2 (shC_s hq) (shC_s hq2)]; simp only [if_pos (shb_eq hk3 hk32 c_45), if_neg c_60, if_neg c_64, if_neg c_69, if_neg c_81, if_pos c_94]; rfl)), ⟨x15, (by first | (rw [cp_0a r_2]; rw [ex15, ex13]; exact jk_fr _ _ _) | (rw [cp_0b r_9]; rw [ex15, ex13]; exact jk_fr _ _ _) | (rw [cp_5 hs hs2 (by first | exact Or.inl (shC_n hq) | exact Or.inr (shC_n hq2))]; rw [ex15, ex13]; exact jk_fr _ _ _) | (rw [cp_s hs hs2 (shC_s hq) (shC_s hq2)]; simp only [if_neg (shb_ne hk3 hk32 c_45)]; rw [ex15, ex13]; exact jk_fr _ _ _) | (rw [cp_s hs hs2 (shC_s hq) (shC_s hq2)]; simp only [if_pos (shb_eq hk3 hk32 c_45), if_pos c_60]; rw [ex15, ex13]; exact jk_fr _ _ _) | (rw [cp_s hs hs2 (shC_s hq) (shC_s hq2)]; simp only [if_pos (shb_eq hk3 hk32 c_45), if_neg c_60, if_pos c_64]; rw [ex15, ex13]; exact jk_fr _ _ _) | (rw [cp_s hs hs2 (shC_s hq) (shC_s hq2)]; simp only [if_pos (shb_eq hk3 hk32 c_45), if_neg c_60, if_neg c_64, if_pos c_69]; rw [ex15, ex13]; exact jk_fr _ _ _) | (rw [cp_s hs hs2 (shC_s hq) (shC_s hq2)]; simp only [if_pos (shb_eq hk3 hk32 c_45), if_neg c_60, if_neg c_64, if_neg c_69, if_pos c_81]; rw [ex15, ex13]; exact jk_fr _ _ _) | (rw [cp_s hs hs2 (shC_s hq) (shC_s hq2)]; simp only [if_pos (shb_eq hk3 hk32 c_45), if_neg c_60, if_neg c_64, if_neg c_69, if_neg c_81, if_pos c_94]; rw [ex15, ex13]; exact jk_fr _ _ _)), by rw [ht]; exact hI⟩, hS.F ht⟩) hS.2.2 dX0_copy_132
      · skip
        obtain ⟨sn2, hs2, et0⟩ := inI_to (b := 3) rfl (by decide) r_9
        have hs2 : sn2 < 4 := by omega
        subst et0
        rcases hq2 : x.2.2.2 sn2 with _ | ⟨sa2, t2, sz2, sg2⟩
        · skip
          refine c_m (k_V (As := [.int (nI sn2)]) (rest := []) F (k_X0_rowAt_n x sn2 hs2 hq2) (cwV 1 hts (lw_V q878 q880 qs24 q91 q881) rfl rfl rfl (by decide +kernel) ⟨Nat.le_of_ble_eq_true rfl, Nat.le_of_ble_eq_true rfl⟩) hI hK (hw.recv hI hK (cf_main) rfl) rfl hl.1 rfl (Nat.le_of_ble_eq_true rfl) dX0_copy_9 ⟨Nat.le_of_ble_eq_true rfl, Nat.le_of_ble_eq_true rfl⟩) hS (fun H1 locs1 hI hS => ?_)
          refine lv_astoreN (lv' := [(7, .null), (6, .ref sa), (0, .ref (L 44)), (1, .int (nI sn)), (2, .int fr), (3, .int (nI sn2)), (4, .int to), (5, .int n)]) hx hb dX0_copy_12 hl (by decide) rfl (fun ls hl => ?_)
          refine lv_aload_n hx hb dX0_copy_14 rfl (lv_at hl 2 rfl) ?_
          refine lv_aload hx hb dX0_copy_15 (lv_at hl 1 rfl) ?_
          refine lv_ifnull hx hb dX0_copy_17 ?_
          refine lv_aloadN hx hb dX0_copy_20 (lv_at hl 0 rfl) ?_
          refine lv_ifnullN (tgt := 29) hx hb dX0_copy_22 (by decide) ?_
          refine lv_iconst (v := 0) hx hb dX0_copy_29 (by decide) ?_
          refine lv_iconst (v := 5) hx hb dX0_copy_30 (by decide) ?_
          obtain ⟨x16, ex16⟩ : ∃ z, z = xr x 4 0 (nI 5) := ⟨_, rfl⟩
          refine x_catch (cf' := cfC D L x16) (by rw [ex16]; exact (k_X (n := 2) (As := [.int 0, .int 5]) (rest := []) F (k_X0_need_thr x 0 5 (rfl)) ⟨rfl, rfl⟩ ⟨Nat.le_of_ble_eq_true rfl, Nat.le_of_ble_eq_true rfl⟩ q885 q887 qs25 q91 q888 (by decide +kernel) hI hK (hw.recv hI hK (cf_main) rfl) rfl hl.1 rfl (Nat.le_of_ble_eq_true rfl) dX0_copy_31 ⟨Nat.le_of_ble_eq_true rfl, Nat.le_of_ble_eq_true rfl⟩)) hS hown (hts _ q123) hhh (by decide) (by decide) (by decide) hK (ci := 1) rfl rfl (cf_refusal) (fun H1 locs1 hI hS => ?_)
          have hf_17 : x16.2.1 4 0 = nI 5 := by rw [ex16]; exact xr_at _ 4 0 _
          refine lv_astore (lv' := [(6, .ref (L 45)), (7, .null), (0, .ref (L 44)), (1, .int (nI sn)), (2, .int fr), (3, .int (nI sn2)), (4, .int to), (5, .int n)]) hx hb dX0_copy_121 hl (by decide) rfl (fun ls hl => ?_)
          refine lv_aload_n hx hb dX0_copy_123 rfl (lv_at hl 2 rfl) ?_
          refine lv_aload hx hb dX0_copy_124 (lv_at hl 0 rfl) ?_
          refine r_getN (C := RX1) (T := TX1) (N := 7) hx hb hts in_X1 hown hK hI (cf_refusal) rfl 6 (by decide) (nf_0 hK) (fun _ h => h) rfl dX0_copy_126 ?_
          rw [hf_17]
          refine c_m (k_V (As := [.int (nI 5)]) (rest := []) F (k_X0_finding x16 5 (by decide)) (cwV 1 hts (lw_V q457 q459 qs2 q91 q460) rfl rfl rfl (by decide +kernel) ⟨Nat.le_of_ble_eq_true rfl, Nat.le_of_ble_eq_true rfl⟩) hI hK (hw.recv hI hK (cf_main) rfl) rfl hl.1 rfl (Nat.le_of_ble_eq_true rfl) dX0_copy_129 ⟨Nat.le_of_ble_eq_true rfl, Nat.le_of_ble_eq_true rfl⟩) hS (fun H1 locs1 hI hS => ?_)
          obtain ⟨x18, ex18⟩ : ∃ z, z = (fnd x16 5) := ⟨_, rfl⟩
          rw [← ex18] at hI
          exact W.iret hx hb hr (fun t ht _ => ⟨rI (by first | (rw [cp_0a r_2]; rfl) | (rw [cp_0b r_9]; rfl) | (rw [cp_5 hs hs2 (by first | exact Or.inl (shC_n hq) | exact Or.inr (shC_n hq2))]; rfl) | (rw [cp_s hs hs2 (shC_s hq) (shC_s hq2)]; simp only [if_neg (shb_ne hk3 hk32 c_45)]; rfl) | (rw [cp_s hs hs2 (shC_s hq) (shC_s hq2)]; simp only [if_pos (shb_eq hk3 hk32 c_45), if_pos c_60]; rfl) | (rw [cp_s hs hs2 (shC_s hq) (shC_s hq2)]; simp only [if_pos (shb_eq hk3 hk32 c_45), if_neg c_60, if_pos c_64]; rfl) | (rw [cp_s hs hs2 (shC_s hq) (shC_s hq2)]; simp only [if_pos (shb_eq hk3 hk32 c_45), if_neg c_60, if_neg c_64, if_pos c_69]; rfl) | (rw [cp_s hs hs2 (shC_s hq) (shC_s hq2)]; simp only [if_pos (shb_eq hk3 hk32 c_45), if_neg c_60, if_neg c_64, if_neg c_69, if_pos c_81]; rfl) | (rw [cp_s hs hs2 (shC_s hq) (shC_s hq2)]; simp only [if_pos (shb_eq hk3 hk32 c_45), if_neg c_60, if_neg c_64, if_neg c_69, if_neg c_81, if_pos c_94]; rfl)), ⟨x18, (by first | (rw [cp_0a r_2]; rw [ex18, ex16]; exact jk_fr _ _ _) | (rw [cp_0b r_9]; rw [ex18, ex16]; exact jk_fr _ _ _) | (rw [cp_5 hs hs2 (by first | exact Or.inl (shC_n hq) | exact Or.inr (shC_n hq2))]; rw [ex18, ex16]; exact jk_fr _ _ _) | (rw [cp_s hs hs2 (shC_s hq) (shC_s hq2)]; simp only [if_neg (shb_ne hk3 hk32 c_45)]; rw [ex18, ex16]; exact jk_fr _ _ _) | (rw [cp_s hs hs2 (shC_s hq) (shC_s hq2)]; simp only [if_pos (shb_eq hk3 hk32 c_45), if_pos c_60]; rw [ex18, ex16]; exact jk_fr _ _ _) | (rw [cp_s hs hs2 (shC_s hq) (shC_s hq2)]; simp only [if_pos (shb_eq hk3 hk32 c_45), if_neg c_60, if_pos c_64]; rw [ex18, ex16]; exact jk_fr _ _ _) | (rw [cp_s hs hs2 (shC_s hq) (shC_s hq2)]; simp only [if_pos (shb_eq hk3 hk32 c_45), if_neg c_60, if_neg c_64, if_pos c_69]; rw [ex18, ex16]; exact jk_fr _ _ _) | (rw [cp_s hs hs2 (shC_s hq) (shC_s hq2)]; simp only [if_pos (shb_eq hk3 hk32 c_45), if_neg c_60, if_neg c_64, if_neg c_69, if_pos c_81]; rw [ex18, ex16]; exact jk_fr _ _ _) | (rw [cp_s hs hs2 (shC_s hq) (shC_s hq2)]; simp only [if_pos (shb_eq hk3 hk32 c_45), if_neg c_60, if_neg c_64, if_neg c_69, if_neg c_81, if_pos c_94]; rw [ex18, ex16]; exact jk_fr _ _ _)), by rw [ht]; exact hI⟩, hS.F ht⟩) hS.2.2 dX0_copy_132
        · skip
          obtain ⟨hk32, hn2, hsg2⟩ := hsh sn2 hs2 _ _ _ _ hq2
          refine c_m (k_V (As := [.int (nI sn2)]) (rest := []) F (k_X0_rowAt_r x sn2 hs2 sa2 t2 sz2 sg2 hq2) (cwV 1 hts (lw_V q878 q880 qs24 q91 q881) rfl rfl rfl (by decide +kernel) ⟨Nat.le_of_ble_eq_true rfl, Nat.le_of_ble_eq_true rfl⟩) hI hK (hw.recv hI hK (cf_main) rfl) rfl hl.1 rfl (Nat.le_of_ble_eq_true rfl) dX0_copy_9 ⟨Nat.le_of_ble_eq_true rfl, Nat.le_of_ble_eq_true rfl⟩) hS (fun H1 locs1 hI hS => ?_)
          refine lv_astore (lv' := [(7, .ref sa2), (6, .ref sa), (0, .ref (L 44)), (1, .int (nI sn)), (2, .int fr), (3, .int (nI sn2)), (4, .int to), (5, .int n)]) hx hb dX0_copy_12 hl (by decide) rfl (fun ls hl => ?_)
          refine lv_aload_n hx hb dX0_copy_14 rfl (lv_at hl 2 rfl) ?_
          refine lv_aload hx hb dX0_copy_15 (lv_at hl 1 rfl) ?_
          refine lv_ifnull hx hb dX0_copy_17 ?_
          refine lv_aload hx hb dX0_copy_20 (lv_at hl 0 rfl) ?_
          refine lv_ifnull hx hb dX0_copy_22 ?_
          refine lv_iconst (v := 1) hx hb dX0_copy_25 (by decide) ?_
          refine lv_goto (tgt := 30) hx hb dX0_copy_26 (by decide) ?_
          refine lv_iconst (v := 5) hx hb dX0_copy_30 (by decide) ?_
          refine c_m (k_V (As := [.int 1, .int 5]) (rest := []) F (k_X0_need_ok x 1 5 (by decide)) (cwV 2 hts (lw_V q885 q887 qs25 q91 q888) rfl rfl rfl (by decide +kernel) ⟨Nat.le_of_ble_eq_true rfl, Nat.le_of_ble_eq_true rfl⟩) hI hK (hw.recv hI hK (cf_main) rfl) rfl hl.1 rfl (Nat.le_of_ble_eq_true rfl) dX0_copy_31 ⟨Nat.le_of_ble_eq_true rfl, Nat.le_of_ble_eq_true rfl⟩) hS (fun H1 locs1 hI hS => ?_)
          refine lv_aload_n hx hb dX0_copy_34 rfl (lv_at hl 2 rfl) ?_
          refine lv_aload hx hb dX0_copy_35 (lv_at hl 1 rfl) ?_
          refine c_r (k_SI (As := [.ref sa]) (rest := [.ref (L 44)]) F (k_X0_widthOf x sn sa t sz sg hs (hq) hk3 hn) (va_cwS 1 hts (lw_S q1115 q1116 q91 q1117) rfl rfl rfl (by decide +kernel) ⟨Nat.le_of_ble_eq_true rfl, Nat.le_of_ble_eq_true rfl⟩) hI hK rfl hl.1 rfl (Nat.le_of_ble_eq_true rfl) dX0_copy_37 ⟨Nat.le_of_ble_eq_true rfl, Nat.le_of_ble_eq_true rfl⟩) ?_
          refine lv_aload hx hb dX0_copy_40 (lv_at hl 0 rfl) ?_
          refine c_r (k_SI (As := [.ref sa2]) (rest := [.int (nI (shb t)), .ref (L 44)]) F (k_X0_widthOf x sn2 sa2 t2 sz2 sg2 hs2 (hq2) hk32 hn2) (va_cwS 1 hts (lw_S q1115 q1116 q91 q1117) rfl rfl rfl (by decide +kernel) ⟨Nat.le_of_ble_eq_true rfl, Nat.le_of_ble_eq_true rfl⟩) hI hK rfl hl.1 rfl (Nat.le_of_ble_eq_true rfl) dX0_copy_42 ⟨Nat.le_of_ble_eq_true rfl, Nat.le_of_ble_eq_true rfl⟩) ?_
          refine lv_icmp_ne (tgt := 52) hx hb dX0_copy_45 (by decide) (fun c_45 => ?_) (fun c_45 => ?_)
          · skip
            refine lv_iconst (v := 0) hx hb dX0_copy_52 (by decide) ?_
            refine lv_iconst (v := 2) hx hb dX0_copy_53 (by decide) ?_
            obtain ⟨x19, ex19⟩ : ∃ z, z = xr x 4 0 (nI 2) := ⟨_, rfl⟩
            refine x_catch (cf' := cfC D L x19) (by rw [ex19]; exact (k_X (n := 2) (As := [.int 0, .int 2]) (rest := []) F (k_X0_need_thr x 0 2 (rfl)) ⟨rfl, rfl⟩ ⟨Nat.le_of_ble_eq_true rfl, Nat.le_of_ble_eq_true rfl⟩ q885 q887 qs25 q91 q888 (by decide +kernel) hI hK (hw.recv hI hK (cf_main) rfl) rfl hl.1 rfl (Nat.le_of_ble_eq_true rfl) dX0_copy_54 ⟨Nat.le_of_ble_eq_true rfl, Nat.le_of_ble_eq_true rfl⟩)) hS hown (hts _ q123) hhh (by decide) (by decide) (by decide) hK (ci := 1) rfl rfl (cf_refusal) (fun H1 locs1 hI hS => ?_)
            have hf_20 : x19.2.1 4 0 = nI 2 := by rw [ex19]; exact xr_at _ 4 0 _
            refine lv_astore (lv' := [(6, .ref (L 45)), (7, .ref sa2), (0, .ref (L 44)), (1, .int (nI sn)), (2, .int fr), (3, .int (nI sn2)), (4, .int to), (5, .int n)]) hx hb dX0_copy_121 hl (by decide) rfl (fun ls hl => ?_)
            refine lv_aload_n hx hb dX0_copy_123 rfl (lv_at hl 2 rfl) ?_
            refine lv_aload hx hb dX0_copy_124 (lv_at hl 0 rfl) ?_
            refine r_getN (C := RX1) (T := TX1) (N := 7) hx hb hts in_X1 hown hK hI (cf_refusal) rfl 6 (by decide) (nf_0 hK) (fun _ h => h) rfl dX0_copy_126 ?_
            rw [hf_20]
            refine c_m (k_V (As := [.int (nI 2)]) (rest := []) F (k_X0_finding x19 2 (by decide)) (cwV 1 hts (lw_V q457 q459 qs2 q91 q460) rfl rfl rfl (by decide +kernel) ⟨Nat.le_of_ble_eq_true rfl, Nat.le_of_ble_eq_true rfl⟩) hI hK (hw.recv hI hK (cf_main) rfl) rfl hl.1 rfl (Nat.le_of_ble_eq_true rfl) dX0_copy_129 ⟨Nat.le_of_ble_eq_true rfl, Nat.le_of_ble_eq_true rfl⟩) hS (fun H1 locs1 hI hS => ?_)
            obtain ⟨x21, ex21⟩ : ∃ z, z = (fnd x19 2) := ⟨_, rfl⟩
            rw [← ex21] at hI
            exact W.iret hx hb hr (fun t ht _ => ⟨rI (by first | (rw [cp_0a r_2]; rfl) | (rw [cp_0b r_9]; rfl) | (rw [cp_5 hs hs2 (by first | exact Or.inl (shC_n hq) | exact Or.inr (shC_n hq2))]; rfl) | (rw [cp_s hs hs2 (shC_s hq) (shC_s hq2)]; simp only [if_neg (shb_ne hk3 hk32 c_45)]; rfl) | (rw [cp_s hs hs2 (shC_s hq) (shC_s hq2)]; simp only [if_pos (shb_eq hk3 hk32 c_45), if_pos c_60]; rfl) | (rw [cp_s hs hs2 (shC_s hq) (shC_s hq2)]; simp only [if_pos (shb_eq hk3 hk32 c_45), if_neg c_60, if_pos c_64]; rfl) | (rw [cp_s hs hs2 (shC_s hq) (shC_s hq2)]; simp only [if_pos (shb_eq hk3 hk32 c_45), if_neg c_60, if_neg c_64, if_pos c_69]; rfl) | (rw [cp_s hs hs2 (shC_s hq) (shC_s hq2)]; simp only [if_pos (shb_eq hk3 hk32 c_45), if_neg c_60, if_neg c_64, if_neg c_69, if_pos c_81]; rfl) | (rw [cp_s hs hs2 (shC_s hq) (shC_s hq2)]; simp only [if_pos (shb_eq hk3 hk32 c_45), if_neg c_60, if_neg c_64, if_neg c_69, if_neg c_81, if_pos c_94]; rfl)), ⟨x21, (by first | (rw [cp_0a r_2]; rw [ex21, ex19]; exact jk_fr _ _ _) | (rw [cp_0b r_9]; rw [ex21, ex19]; exact jk_fr _ _ _) | (rw [cp_5 hs hs2 (by first | exact Or.inl (shC_n hq) | exact Or.inr (shC_n hq2))]; rw [ex21, ex19]; exact jk_fr _ _ _) | (rw [cp_s hs hs2 (shC_s hq) (shC_s hq2)]; simp only [if_neg (shb_ne hk3 hk32 c_45)]; rw [ex21, ex19]; exact jk_fr _ _ _) | (rw [cp_s hs hs2 (shC_s hq) (shC_s hq2)]; simp only [if_pos (shb_eq hk3 hk32 c_45), if_pos c_60]; rw [ex21, ex19]; exact jk_fr _ _ _) | (rw [cp_s hs hs2 (shC_s hq) (shC_s hq2)]; simp only [if_pos (shb_eq hk3 hk32 c_45), if_neg c_60, if_pos c_64]; rw [ex21, ex19]; exact jk_fr _ _ _) | (rw [cp_s hs hs2 (shC_s hq) (shC_s hq2)]; simp only [if_pos (shb_eq hk3 hk32 c_45), if_neg c_60, if_neg c_64, if_pos c_69]; rw [ex21, ex19]; exact jk_fr _ _ _) | (rw [cp_s hs hs2 (shC_s hq) (shC_s hq2)]; simp only [if_pos (shb_eq hk3 hk32 c_45), if_neg c_60, if_neg c_64, if_neg c_69, if_pos c_81]; rw [ex21, ex19]; exact jk_fr _ _ _) | (rw [cp_s hs hs2 (shC_s hq) (shC_s hq2)]; simp only [if_pos (shb_eq hk3 hk32 c_45), if_neg c_60, if_neg c_64, if_neg c_69, if_neg c_81, if_pos c_94]; rw [ex21, ex19]; exact jk_fr _ _ _)), by rw [ht]; exact hI⟩, hS.F ht⟩) hS.2.2 dX0_copy_132
          · skip
            refine lv_iconst (v := 1) hx hb dX0_copy_48 (by decide) ?_
            refine lv_goto (tgt := 53) hx hb dX0_copy_49 (by decide) ?_
            refine lv_iconst (v := 2) hx hb dX0_copy_53 (by decide) ?_
            refine c_m (k_V (As := [.int 1, .int 2]) (rest := []) F (k_X0_need_ok x 1 2 (by decide)) (cwV 2 hts (lw_V q885 q887 qs25 q91 q888) rfl rfl rfl (by decide +kernel) ⟨Nat.le_of_ble_eq_true rfl, Nat.le_of_ble_eq_true rfl⟩) hI hK (hw.recv hI hK (cf_main) rfl) rfl hl.1 rfl (Nat.le_of_ble_eq_true rfl) dX0_copy_54 ⟨Nat.le_of_ble_eq_true rfl, Nat.le_of_ble_eq_true rfl⟩) hS (fun H1 locs1 hI hS => ?_)
            refine lv_aload_n hx hb dX0_copy_57 rfl (lv_at hl 2 rfl) ?_
            refine lv_iload hx hb dX0_copy_58 (lv_at hl 7 rfl) ?_
            refine lv_if_lt (tgt := 101) hx hb dX0_copy_60 (by decide) (fun c_60 => ?_) (fun c_60 => ?_)
            · skip
              refine lv_iconst (v := 0) hx hb dX0_copy_101 (by decide) ?_
              refine lv_iconst (v := 0) hx hb dX0_copy_102 (by decide) ?_
              obtain ⟨x22, ex22⟩ : ∃ z, z = xr x 4 0 (nI 0) := ⟨_, rfl⟩
              refine x_catch (cf' := cfC D L x22) (by rw [ex22]; exact (k_X (n := 2) (As := [.int 0, .int 0]) (rest := []) F (k_X0_need_thr x 0 0 (rfl)) ⟨rfl, rfl⟩ ⟨Nat.le_of_ble_eq_true rfl, Nat.le_of_ble_eq_true rfl⟩ q885 q887 qs25 q91 q888 (by decide +kernel) hI hK (hw.recv hI hK (cf_main) rfl) rfl hl.1 rfl (Nat.le_of_ble_eq_true rfl) dX0_copy_103 ⟨Nat.le_of_ble_eq_true rfl, Nat.le_of_ble_eq_true rfl⟩)) hS hown (hts _ q123) hhh (by decide) (by decide) (by decide) hK (ci := 1) rfl rfl (cf_refusal) (fun H1 locs1 hI hS => ?_)
              have hf_23 : x22.2.1 4 0 = nI 0 := by rw [ex22]; exact xr_at _ 4 0 _
              refine lv_astore (lv' := [(6, .ref (L 45)), (7, .ref sa2), (0, .ref (L 44)), (1, .int (nI sn)), (2, .int fr), (3, .int (nI sn2)), (4, .int to), (5, .int n)]) hx hb dX0_copy_121 hl (by decide) rfl (fun ls hl => ?_)
              refine lv_aload_n hx hb dX0_copy_123 rfl (lv_at hl 2 rfl) ?_
              refine lv_aload hx hb dX0_copy_124 (lv_at hl 0 rfl) ?_
              refine r_getN (C := RX1) (T := TX1) (N := 7) hx hb hts in_X1 hown hK hI (cf_refusal) rfl 6 (by decide) (nf_0 hK) (fun _ h => h) rfl dX0_copy_126 ?_
              rw [hf_23]
              refine c_m (k_V (As := [.int (nI 0)]) (rest := []) F (k_X0_finding x22 0 (by decide)) (cwV 1 hts (lw_V q457 q459 qs2 q91 q460) rfl rfl rfl (by decide +kernel) ⟨Nat.le_of_ble_eq_true rfl, Nat.le_of_ble_eq_true rfl⟩) hI hK (hw.recv hI hK (cf_main) rfl) rfl hl.1 rfl (Nat.le_of_ble_eq_true rfl) dX0_copy_129 ⟨Nat.le_of_ble_eq_true rfl, Nat.le_of_ble_eq_true rfl⟩) hS (fun H1 locs1 hI hS => ?_)
              obtain ⟨x24, ex24⟩ : ∃ z, z = (fnd x22 0) := ⟨_, rfl⟩
              rw [← ex24] at hI
              exact W.iret hx hb hr (fun t ht _ => ⟨rI (by first | (rw [cp_0a r_2]; rfl) | (rw [cp_0b r_9]; rfl) | (rw [cp_5 hs hs2 (by first | exact Or.inl (shC_n hq) | exact Or.inr (shC_n hq2))]; rfl) | (rw [cp_s hs hs2 (shC_s hq) (shC_s hq2)]; simp only [if_neg (shb_ne hk3 hk32 c_45)]; rfl) | (rw [cp_s hs hs2 (shC_s hq) (shC_s hq2)]; simp only [if_pos (shb_eq hk3 hk32 c_45), if_pos c_60]; rfl) | (rw [cp_s hs hs2 (shC_s hq) (shC_s hq2)]; simp only [if_pos (shb_eq hk3 hk32 c_45), if_neg c_60, if_pos c_64]; rfl) | (rw [cp_s hs hs2 (shC_s hq) (shC_s hq2)]; simp only [if_pos (shb_eq hk3 hk32 c_45), if_neg c_60, if_neg c_64, if_pos c_69]; rfl) | (rw [cp_s hs hs2 (shC_s hq) (shC_s hq2)]; simp only [if_pos (shb_eq hk3 hk32 c_45), if_neg c_60, if_neg c_64, if_neg c_69, if_pos c_81]; rfl) | (rw [cp_s hs hs2 (shC_s hq) (shC_s hq2)]; simp only [if_pos (shb_eq hk3 hk32 c_45), if_neg c_60, if_neg c_64, if_neg c_69, if_neg c_81, if_pos c_94]; rfl)), ⟨x24, (by first | (rw [cp_0a r_2]; rw [ex24, ex22]; exact jk_fr _ _ _) | (rw [cp_0b r_9]; rw [ex24, ex22]; exact jk_fr _ _ _) | (rw [cp_5 hs hs2 (by first | exact Or.inl (shC_n hq) | exact Or.inr (shC_n hq2))]; rw [ex24, ex22]; exact jk_fr _ _ _) | (rw [cp_s hs hs2 (shC_s hq) (shC_s hq2)]; simp only [if_neg (shb_ne hk3 hk32 c_45)]; rw [ex24, ex22]; exact jk_fr _ _ _) | (rw [cp_s hs hs2 (shC_s hq) (shC_s hq2)]; simp only [if_pos (shb_eq hk3 hk32 c_45), if_pos c_60]; rw [ex24, ex22]; exact jk_fr _ _ _) | (rw [cp_s hs hs2 (shC_s hq) (shC_s hq2)]; simp only [if_pos (shb_eq hk3 hk32 c_45), if_neg c_60, if_pos c_64]; rw [ex24, ex22]; exact jk_fr _ _ _) | (rw [cp_s hs hs2 (shC_s hq) (shC_s hq2)]; simp only [if_pos (shb_eq hk3 hk32 c_45), if_neg c_60, if_neg c_64, if_pos c_69]; rw [ex24, ex22]; exact jk_fr _ _ _) | (rw [cp_s hs hs2 (shC_s hq) (shC_s hq2)]; simp only [if_pos (shb_eq hk3 hk32 c_45), if_neg c_60, if_neg c_64, if_neg c_69, if_pos c_81]; rw [ex24, ex22]; exact jk_fr _ _ _) | (rw [cp_s hs hs2 (shC_s hq) (shC_s hq2)]; simp only [if_pos (shb_eq hk3 hk32 c_45), if_neg c_60, if_neg c_64, if_neg c_69, if_neg c_81, if_pos c_94]; rw [ex24, ex22]; exact jk_fr _ _ _)), by rw [ht]; exact hI⟩, hS.F ht⟩) hS.2.2 dX0_copy_132
            · skip
              refine lv_iload_n hx hb dX0_copy_63 rfl (lv_at hl 4 rfl) ?_
              refine lv_if_lt (tgt := 101) hx hb dX0_copy_64 (by decide) (fun c_64 => ?_) (fun c_64 => ?_)
              · skip
                refine lv_iconst (v := 0) hx hb dX0_copy_101 (by decide) ?_
                refine lv_iconst (v := 0) hx hb dX0_copy_102 (by decide) ?_
                obtain ⟨x25, ex25⟩ : ∃ z, z = xr x 4 0 (nI 0) := ⟨_, rfl⟩
                refine x_catch (cf' := cfC D L x25) (by rw [ex25]; exact (k_X (n := 2) (As := [.int 0, .int 0]) (rest := []) F (k_X0_need_thr x 0 0 (rfl)) ⟨rfl, rfl⟩ ⟨Nat.le_of_ble_eq_true rfl, Nat.le_of_ble_eq_true rfl⟩ q885 q887 qs25 q91 q888 (by decide +kernel) hI hK (hw.recv hI hK (cf_main) rfl) rfl hl.1 rfl (Nat.le_of_ble_eq_true rfl) dX0_copy_103 ⟨Nat.le_of_ble_eq_true rfl, Nat.le_of_ble_eq_true rfl⟩)) hS hown (hts _ q123) hhh (by decide) (by decide) (by decide) hK (ci := 1) rfl rfl (cf_refusal) (fun H1 locs1 hI hS => ?_)
                have hf_26 : x25.2.1 4 0 = nI 0 := by rw [ex25]; exact xr_at _ 4 0 _
                refine lv_astore (lv' := [(6, .ref (L 45)), (7, .ref sa2), (0, .ref (L 44)), (1, .int (nI sn)), (2, .int fr), (3, .int (nI sn2)), (4, .int to), (5, .int n)]) hx hb dX0_copy_121 hl (by decide) rfl (fun ls hl => ?_)
                refine lv_aload_n hx hb dX0_copy_123 rfl (lv_at hl 2 rfl) ?_
                refine lv_aload hx hb dX0_copy_124 (lv_at hl 0 rfl) ?_
                refine r_getN (C := RX1) (T := TX1) (N := 7) hx hb hts in_X1 hown hK hI (cf_refusal) rfl 6 (by decide) (nf_0 hK) (fun _ h => h) rfl dX0_copy_126 ?_
                rw [hf_26]
                refine c_m (k_V (As := [.int (nI 0)]) (rest := []) F (k_X0_finding x25 0 (by decide)) (cwV 1 hts (lw_V q457 q459 qs2 q91 q460) rfl rfl rfl (by decide +kernel) ⟨Nat.le_of_ble_eq_true rfl, Nat.le_of_ble_eq_true rfl⟩) hI hK (hw.recv hI hK (cf_main) rfl) rfl hl.1 rfl (Nat.le_of_ble_eq_true rfl) dX0_copy_129 ⟨Nat.le_of_ble_eq_true rfl, Nat.le_of_ble_eq_true rfl⟩) hS (fun H1 locs1 hI hS => ?_)
                obtain ⟨x27, ex27⟩ : ∃ z, z = (fnd x25 0) := ⟨_, rfl⟩
                rw [← ex27] at hI
                exact W.iret hx hb hr (fun t ht _ => ⟨rI (by first | (rw [cp_0a r_2]; rfl) | (rw [cp_0b r_9]; rfl) | (rw [cp_5 hs hs2 (by first | exact Or.inl (shC_n hq) | exact Or.inr (shC_n hq2))]; rfl) | (rw [cp_s hs hs2 (shC_s hq) (shC_s hq2)]; simp only [if_neg (shb_ne hk3 hk32 c_45)]; rfl) | (rw [cp_s hs hs2 (shC_s hq) (shC_s hq2)]; simp only [if_pos (shb_eq hk3 hk32 c_45), if_pos c_60]; rfl) | (rw [cp_s hs hs2 (shC_s hq) (shC_s hq2)]; simp only [if_pos (shb_eq hk3 hk32 c_45), if_neg c_60, if_pos c_64]; rfl) | (rw [cp_s hs hs2 (shC_s hq) (shC_s hq2)]; simp only [if_pos (shb_eq hk3 hk32 c_45), if_neg c_60, if_neg c_64, if_pos c_69]; rfl) | (rw [cp_s hs hs2 (shC_s hq) (shC_s hq2)]; simp only [if_pos (shb_eq hk3 hk32 c_45), if_neg c_60, if_neg c_64, if_neg c_69, if_pos c_81]; rfl) | (rw [cp_s hs hs2 (shC_s hq) (shC_s hq2)]; simp only [if_pos (shb_eq hk3 hk32 c_45), if_neg c_60, if_neg c_64, if_neg c_69, if_neg c_81, if_pos c_94]; rfl)), ⟨x27, (by first | (rw [cp_0a r_2]; rw [ex27, ex25]; exact jk_fr _ _ _) | (rw [cp_0b r_9]; rw [ex27, ex25]; exact jk_fr _ _ _) | (rw [cp_5 hs hs2 (by first | exact Or.inl (shC_n hq) | exact Or.inr (shC_n hq2))]; rw [ex27, ex25]; exact jk_fr _ _ _) | (rw [cp_s hs hs2 (shC_s hq) (shC_s hq2)]; simp only [if_neg (shb_ne hk3 hk32 c_45)]; rw [ex27, ex25]; exact jk_fr _ _ _) | (rw [cp_s hs hs2 (shC_s hq) (shC_s hq2)]; simp only [if_pos (shb_eq hk3 hk32 c_45), if_pos c_60]; rw [ex27, ex25]; exact jk_fr _ _ _) | (rw [cp_s hs hs2 (shC_s hq) (shC_s hq2)]; simp only [if_pos (shb_eq hk3 hk32 c_45), if_neg c_60, if_pos c_64]; rw [ex27, ex25]; exact jk_fr _ _ _) | (rw [cp_s hs hs2 (shC_s hq) (shC_s hq2)]; simp only [if_pos (shb_eq hk3 hk32 c_45), if_neg c_60, if_neg c_64, if_pos c_69]; rw [ex27, ex25]; exact jk_fr _ _ _) | (rw [cp_s hs hs2 (shC_s hq) (shC_s hq2)]; simp only [if_pos (shb_eq hk3 hk32 c_45), if_neg c_60, if_neg c_64, if_neg c_69, if_pos c_81]; rw [ex27, ex25]; exact jk_fr _ _ _) | (rw [cp_s hs hs2 (shC_s hq) (shC_s hq2)]; simp only [if_pos (shb_eq hk3 hk32 c_45), if_neg c_60, if_neg c_64, if_neg c_69, if_neg c_81, if_pos c_94]; rw [ex27, ex25]; exact jk_fr _ _ _)), by rw [ht]; exact hI⟩, hS.F ht⟩) hS.2.2 dX0_copy_132
              · skip
                refine lv_iload hx hb dX0_copy_67 (lv_at hl 6 rfl) ?_
                refine lv_if_lt (tgt := 101) hx hb dX0_copy_69 (by decide) (fun c_69 => ?_) (fun c_69 => ?_)
                · skip
                  refine lv_iconst (v := 0) hx hb dX0_copy_101 (by decide) ?_
                  refine lv_iconst (v := 0) hx hb dX0_copy_102 (by decide) ?_
                  obtain ⟨x28, ex28⟩ : ∃ z, z = xr x 4 0 (nI 0) := ⟨_, rfl⟩
                  refine x_catch (cf' := cfC D L x28) (by rw [ex28]; exact (k_X (n := 2) (As := [.int 0, .int 0]) (rest := []) F (k_X0_need_thr x 0 0 (rfl)) ⟨rfl, rfl⟩ ⟨Nat.le_of_ble_eq_true rfl, Nat.le_of_ble_eq_true rfl⟩ q885 q887 qs25 q91 q888 (by decide +kernel) hI hK (hw.recv hI hK (cf_main) rfl) rfl hl.1 rfl (Nat.le_of_ble_eq_true rfl) dX0_copy_103 ⟨Nat.le_of_ble_eq_true rfl, Nat.le_of_ble_eq_true rfl⟩)) hS hown (hts _ q123) hhh (by decide) (by decide) (by decide) hK (ci := 1) rfl rfl (cf_refusal) (fun H1 locs1 hI hS => ?_)
                  have hf_29 : x28.2.1 4 0 = nI 0 := by rw [ex28]; exact xr_at _ 4 0 _
                  refine lv_astore (lv' := [(6, .ref (L 45)), (7, .ref sa2), (0, .ref (L 44)), (1, .int (nI sn)), (2, .int fr), (3, .int (nI sn2)), (4, .int to), (5, .int n)]) hx hb dX0_copy_121 hl (by decide) rfl (fun ls hl => ?_)
                  refine lv_aload_n hx hb dX0_copy_123 rfl (lv_at hl 2 rfl) ?_
                  refine lv_aload hx hb dX0_copy_124 (lv_at hl 0 rfl) ?_
                  refine r_getN (C := RX1) (T := TX1) (N := 7) hx hb hts in_X1 hown hK hI (cf_refusal) rfl 6 (by decide) (nf_0 hK) (fun _ h => h) rfl dX0_copy_126 ?_
                  rw [hf_29]
                  refine c_m (k_V (As := [.int (nI 0)]) (rest := []) F (k_X0_finding x28 0 (by decide)) (cwV 1 hts (lw_V q457 q459 qs2 q91 q460) rfl rfl rfl (by decide +kernel) ⟨Nat.le_of_ble_eq_true rfl, Nat.le_of_ble_eq_true rfl⟩) hI hK (hw.recv hI hK (cf_main) rfl) rfl hl.1 rfl (Nat.le_of_ble_eq_true rfl) dX0_copy_129 ⟨Nat.le_of_ble_eq_true rfl, Nat.le_of_ble_eq_true rfl⟩) hS (fun H1 locs1 hI hS => ?_)
                  obtain ⟨x30, ex30⟩ : ∃ z, z = (fnd x28 0) := ⟨_, rfl⟩
                  rw [← ex30] at hI
                  exact W.iret hx hb hr (fun t ht _ => ⟨rI (by first | (rw [cp_0a r_2]; rfl) | (rw [cp_0b r_9]; rfl) | (rw [cp_5 hs hs2 (by first | exact Or.inl (shC_n hq) | exact Or.inr (shC_n hq2))]; rfl) | (rw [cp_s hs hs2 (shC_s hq) (shC_s hq2)]; simp only [if_neg (shb_ne hk3 hk32 c_45)]; rfl) | (rw [cp_s hs hs2 (shC_s hq) (shC_s hq2)]; simp only [if_pos (shb_eq hk3 hk32 c_45), if_pos c_60]; rfl) | (rw [cp_s hs hs2 (shC_s hq) (shC_s hq2)]; simp only [if_pos (shb_eq hk3 hk32 c_45), if_neg c_60, if_pos c_64]; rfl) | (rw [cp_s hs hs2 (shC_s hq) (shC_s hq2)]; simp only [if_pos (shb_eq hk3 hk32 c_45), if_neg c_60, if_neg c_64, if_pos c_69]; rfl) | (rw [cp_s hs hs2 (shC_s hq) (shC_s hq2)]; simp only [if_pos (shb_eq hk3 hk32 c_45), if_neg c_60, if_neg c_64, if_neg c_69, if_pos c_81]; rfl) | (rw [cp_s hs hs2 (shC_s hq) (shC_s hq2)]; simp only [if_pos (shb_eq hk3 hk32 c_45), if_neg c_60, if_neg c_64, if_neg c_69, if_neg c_81, if_pos c_94]; rfl)), ⟨x30, (by first | (rw [cp_0a r_2]; rw [ex30, ex28]; exact jk_fr _ _ _) | (rw [cp_0b r_9]; rw [ex30, ex28]; exact jk_fr _ _ _) | (rw [cp_5 hs hs2 (by first | exact Or.inl (shC_n hq) | exact Or.inr (shC_n hq2))]; rw [ex30, ex28]; exact jk_fr _ _ _) | (rw [cp_s hs hs2 (shC_s hq) (shC_s hq2)]; simp only [if_neg (shb_ne hk3 hk32 c_45)]; rw [ex30, ex28]; exact jk_fr _ _ _) | (rw [cp_s hs hs2 (shC_s hq) (shC_s hq2)]; simp only [if_pos (shb_eq hk3 hk32 c_45), if_pos c_60]; rw [ex30, ex28]; exact jk_fr _ _ _) | (rw [cp_s hs hs2 (shC_s hq) (shC_s hq2)]; simp only [if_pos (shb_eq hk3 hk32 c_45), if_neg c_60, if_pos c_64]; rw [ex30, ex28]; exact jk_fr _ _ _) | (rw [cp_s hs hs2 (shC_s hq) (shC_s hq2)]; simp only [if_pos (shb_eq hk3 hk32 c_45), if_neg c_60, if_neg c_64, if_pos c_69]; rw [ex30, ex28]; exact jk_fr _ _ _) | (rw [cp_s hs hs2 (shC_s hq) (shC_s hq2)]; simp only [if_pos (shb_eq hk3 hk32 c_45), if_neg c_60, if_neg c_64, if_neg c_69, if_pos c_81]; rw [ex30, ex28]; exact jk_fr _ _ _) | (rw [cp_s hs hs2 (shC_s hq) (shC_s hq2)]; simp only [if_pos (shb_eq hk3 hk32 c_45), if_neg c_60, if_neg c_64, if_neg c_69, if_neg c_81, if_pos c_94]; rw [ex30, ex28]; exact jk_fr _ _ _)), by rw [ht]; exact hI⟩, hS.F ht⟩) hS.2.2 dX0_copy_132
                · skip
                  refine lv_iload_n hx hb dX0_copy_72 rfl (lv_at hl 4 rfl) ?_
                  refine lv_aload hx hb dX0_copy_73 (lv_at hl 1 rfl) ?_
                  refine c_r (k_SI (As := [.ref sa]) (rest := [.int fr, .ref (L 44)]) F (k_X0_length x sn sa t sz sg hs (hq) hk3 hn) (va_cwS 1 hts (lw_S q897 q898 q91 q899) rfl rfl rfl (by decide +kernel) ⟨Nat.le_of_ble_eq_true rfl, Nat.le_of_ble_eq_true rfl⟩) hI hK rfl hl.1 rfl (Nat.le_of_ble_eq_true rfl) dX0_copy_75 ⟨Nat.le_of_ble_eq_true rfl, Nat.le_of_ble_eq_true rfl⟩) ?_
                  refine lv_iload hx hb dX0_copy_78 (lv_at hl 7 rfl) ?_
                  refine lv_isub hx hb dX0_copy_80 ?_
                  refine lv_icmp_gt (tgt := 101) hx hb dX0_copy_81 (by decide) (fun c_81 => ?_) (fun c_81 => ?_)
                  · skip
                    refine lv_iconst (v := 0) hx hb dX0_copy_101 (by decide) ?_
                    refine lv_iconst (v := 0) hx hb dX0_copy_102 (by decide) ?_
                    obtain ⟨x31, ex31⟩ : ∃ z, z = xr x 4 0 (nI 0) := ⟨_, rfl⟩
                    refine x_catch (cf' := cfC D L x31) (by rw [ex31]; exact (k_X (n := 2) (As := [.int 0, .int 0]) (rest := []) F (k_X0_need_thr x 0 0 (rfl)) ⟨rfl, rfl⟩ ⟨Nat.le_of_ble_eq_true rfl, Nat.le_of_ble_eq_true rfl⟩ q885 q887 qs25 q91 q888 (by decide +kernel) hI hK (hw.recv hI hK (cf_main) rfl) rfl hl.1 rfl (Nat.le_of_ble_eq_true rfl) dX0_copy_103 ⟨Nat.le_of_ble_eq_true rfl, Nat.le_of_ble_eq_true rfl⟩)) hS hown (hts _ q123) hhh (by decide) (by decide) (by decide) hK (ci := 1) rfl rfl (cf_refusal) (fun H1 locs1 hI hS => ?_)
                    have hf_32 : x31.2.1 4 0 = nI 0 := by rw [ex31]; exact xr_at _ 4 0 _
                    refine lv_astore (lv' := [(6, .ref (L 45)), (7, .ref sa2), (0, .ref (L 44)), (1, .int (nI sn)), (2, .int fr), (3, .int (nI sn2)), (4, .int to), (5, .int n)]) hx hb dX0_copy_121 hl (by decide) rfl (fun ls hl => ?_)
                    refine lv_aload_n hx hb dX0_copy_123 rfl (lv_at hl 2 rfl) ?_
                    refine lv_aload hx hb dX0_copy_124 (lv_at hl 0 rfl) ?_
                    refine r_getN (C := RX1) (T := TX1) (N := 7) hx hb hts in_X1 hown hK hI (cf_refusal) rfl 6 (by decide) (nf_0 hK) (fun _ h => h) rfl dX0_copy_126 ?_
                    rw [hf_32]
                    refine c_m (k_V (As := [.int (nI 0)]) (rest := []) F (k_X0_finding x31 0 (by decide)) (cwV 1 hts (lw_V q457 q459 qs2 q91 q460) rfl rfl rfl (by decide +kernel) ⟨Nat.le_of_ble_eq_true rfl, Nat.le_of_ble_eq_true rfl⟩) hI hK (hw.recv hI hK (cf_main) rfl) rfl hl.1 rfl (Nat.le_of_ble_eq_true rfl) dX0_copy_129 ⟨Nat.le_of_ble_eq_true rfl, Nat.le_of_ble_eq_true rfl⟩) hS (fun H1 locs1 hI hS => ?_)
                    obtain ⟨x33, ex33⟩ : ∃ z, z = (fnd x31 0) := ⟨_, rfl⟩
                    rw [← ex33] at hI
                    exact W.iret hx hb hr (fun t ht _ => ⟨rI (by first | (rw [cp_0a r_2]; rfl) | (rw [cp_0b r_9]; rfl) | (rw [cp_5 hs hs2 (by first | exact Or.inl (shC_n hq) | exact Or.inr (shC_n hq2))]; rfl) | (rw [cp_s hs hs2 (shC_s hq) (shC_s hq2)]; simp only [if_neg (shb_ne hk3 hk32 c_45)]; rfl) | (rw [cp_s hs hs2 (shC_s hq) (shC_s hq2)]; simp only [if_pos (shb_eq hk3 hk32 c_45), if_pos c_60]; rfl) | (rw [cp_s hs hs2 (shC_s hq) (shC_s hq2)]; simp only [if_pos (shb_eq hk3 hk32 c_45), if_neg c_60, if_pos c_64]; rfl) | (rw [cp_s hs hs2 (shC_s hq) (shC_s hq2)]; simp only [if_pos (shb_eq hk3 hk32 c_45), if_neg c_60, if_neg c_64, if_pos c_69]; rfl) | (rw [cp_s hs hs2 (shC_s hq) (shC_s hq2)]; simp only [if_pos (shb_eq hk3 hk32 c_45), if_neg c_60, if_neg c_64, if_neg c_69, if_pos c_81]; rfl) | (rw [cp_s hs hs2 (shC_s hq) (shC_s hq2)]; simp only [if_pos (shb_eq hk3 hk32 c_45), if_neg c_60, if_neg c_64, if_neg c_69, if_neg c_81, if_pos c_94]; rfl)), ⟨x33, (by first | (rw [cp_0a r_2]; rw [ex33, ex31]; exact jk_fr _ _ _) | (rw [cp_0b r_9]; rw [ex33, ex31]; exact jk_fr _ _ _) | (rw [cp_5 hs hs2 (by first | exact Or.inl (shC_n hq) | exact Or.inr (shC_n hq2))]; rw [ex33, ex31]; exact jk_fr _ _ _) | (rw [cp_s hs hs2 (shC_s hq) (shC_s hq2)]; simp only [if_neg (shb_ne hk3 hk32 c_45)]; rw [ex33, ex31]; exact jk_fr _ _ _) | (rw [cp_s hs hs2 (shC_s hq) (shC_s hq2)]; simp only [if_pos (shb_eq hk3 hk32 c_45), if_pos c_60]; rw [ex33, ex31]; exact jk_fr _ _ _) | (rw [cp_s hs hs2 (shC_s hq) (shC_s hq2)]; simp only [if_pos (shb_eq hk3 hk32 c_45), if_neg c_60, if_pos c_64]; rw [ex33, ex31]; exact jk_fr _ _ _) | (rw [cp_s hs hs2 (shC_s hq) (shC_s hq2)]; simp only [if_pos (shb_eq hk3 hk32 c_45), if_neg c_60, if_neg c_64, if_pos c_69]; rw [ex33, ex31]; exact jk_fr _ _ _) | (rw [cp_s hs hs2 (shC_s hq) (shC_s hq2)]; simp only [if_pos (shb_eq hk3 hk32 c_45), if_neg c_60, if_neg c_64, if_neg c_69, if_pos c_81]; rw [ex33, ex31]; exact jk_fr _ _ _) | (rw [cp_s hs hs2 (shC_s hq) (shC_s hq2)]; simp only [if_pos (shb_eq hk3 hk32 c_45), if_neg c_60, if_neg c_64, if_neg c_69, if_neg c_81, if_pos c_94]; rw [ex33, ex31]; exact jk_fr _ _ _)), by rw [ht]; exact hI⟩, hS.F ht⟩) hS.2.2 dX0_copy_132
                  · skip
                    refine lv_iload hx hb dX0_copy_84 (lv_at hl 6 rfl) ?_
                    refine lv_aload hx hb dX0_copy_86 (lv_at hl 0 rfl) ?_
                    refine c_r (k_SI (As := [.ref sa2]) (rest := [.int to, .ref (L 44)]) F (k_X0_length x sn2 sa2 t2 sz2 sg2 hs2 (hq2) hk32 hn2) (va_cwS 1 hts (lw_S q897 q898 q91 q899) rfl rfl rfl (by decide +kernel) ⟨Nat.le_of_ble_eq_true rfl, Nat.le_of_ble_eq_true rfl⟩) hI hK rfl hl.1 rfl (Nat.le_of_ble_eq_true rfl) dX0_copy_88 ⟨Nat.le_of_ble_eq_true rfl, Nat.le_of_ble_eq_true rfl⟩) ?_
                    refine lv_iload hx hb dX0_copy_91 (lv_at hl 7 rfl) ?_
                    refine lv_isub hx hb dX0_copy_93 ?_
                    refine lv_icmp_gt (tgt := 101) hx hb dX0_copy_94 (by decide) (fun c_94 => ?_) (fun c_94 => ?_)
                    · skip
                      refine lv_iconst (v := 0) hx hb dX0_copy_101 (by decide) ?_
                      refine lv_iconst (v := 0) hx hb dX0_copy_102 (by decide) ?_
                      obtain ⟨x34, ex34⟩ : ∃ z, z = xr x 4 0 (nI 0) := ⟨_, rfl⟩
                      refine x_catch (cf' := cfC D L x34) (by rw [ex34]; exact (k_X (n := 2) (As := [.int 0, .int 0]) (rest := []) F (k_X0_need_thr x 0 0 (rfl)) ⟨rfl, rfl⟩ ⟨Nat.le_of_ble_eq_true rfl, Nat.le_of_ble_eq_true rfl⟩ q885 q887 qs25 q91 q888 (by decide +kernel) hI hK (hw.recv hI hK (cf_main) rfl) rfl hl.1 rfl (Nat.le_of_ble_eq_true rfl) dX0_copy_103 ⟨Nat.le_of_ble_eq_true rfl, Nat.le_of_ble_eq_true rfl⟩)) hS hown (hts _ q123) hhh (by decide) (by decide) (by decide) hK (ci := 1) rfl rfl (cf_refusal) (fun H1 locs1 hI hS => ?_)
                      have hf_35 : x34.2.1 4 0 = nI 0 := by rw [ex34]; exact xr_at _ 4 0 _
                      refine lv_astore (lv' := [(6, .ref (L 45)), (7, .ref sa2), (0, .ref (L 44)), (1, .int (nI sn)), (2, .int fr), (3, .int (nI sn2)), (4, .int to), (5, .int n)]) hx hb dX0_copy_121 hl (by decide) rfl (fun ls hl => ?_)
                      refine lv_aload_n hx hb dX0_copy_123 rfl (lv_at hl 2 rfl) ?_
                      refine lv_aload hx hb dX0_copy_124 (lv_at hl 0 rfl) ?_
                      refine r_getN (C := RX1) (T := TX1) (N := 7) hx hb hts in_X1 hown hK hI (cf_refusal) rfl 6 (by decide) (nf_0 hK) (fun _ h => h) rfl dX0_copy_126 ?_
                      rw [hf_35]
                      refine c_m (k_V (As := [.int (nI 0)]) (rest := []) F (k_X0_finding x34 0 (by decide)) (cwV 1 hts (lw_V q457 q459 qs2 q91 q460) rfl rfl rfl (by decide +kernel) ⟨Nat.le_of_ble_eq_true rfl, Nat.le_of_ble_eq_true rfl⟩) hI hK (hw.recv hI hK (cf_main) rfl) rfl hl.1 rfl (Nat.le_of_ble_eq_true rfl) dX0_copy_129 ⟨Nat.le_of_ble_eq_true rfl, Nat.le_of_ble_eq_true rfl⟩) hS (fun H1 locs1 hI hS => ?_)
                      obtain ⟨x36, ex36⟩ : ∃ z, z = (fnd x34 0) := ⟨_, rfl⟩
                      rw [← ex36] at hI
                      exact W.iret hx hb hr (fun t ht _ => ⟨rI (by first | (rw [cp_0a r_2]; rfl) | (rw [cp_0b r_9]; rfl) | (rw [cp_5 hs hs2 (by first | exact Or.inl (shC_n hq) | exact Or.inr (shC_n hq2))]; rfl) | (rw [cp_s hs hs2 (shC_s hq) (shC_s hq2)]; simp only [if_neg (shb_ne hk3 hk32 c_45)]; rfl) | (rw [cp_s hs hs2 (shC_s hq) (shC_s hq2)]; simp only [if_pos (shb_eq hk3 hk32 c_45), if_pos c_60]; rfl) | (rw [cp_s hs hs2 (shC_s hq) (shC_s hq2)]; simp only [if_pos (shb_eq hk3 hk32 c_45), if_neg c_60, if_pos c_64]; rfl) | (rw [cp_s hs hs2 (shC_s hq) (shC_s hq2)]; simp only [if_pos (shb_eq hk3 hk32 c_45), if_neg c_60, if_neg c_64, if_pos c_69]; rfl) | (rw [cp_s hs hs2 (shC_s hq) (shC_s hq2)]; simp only [if_pos (shb_eq hk3 hk32 c_45), if_neg c_60, if_neg c_64, if_neg c_69, if_pos c_81]; rfl) | (rw [cp_s hs hs2 (shC_s hq) (shC_s hq2)]; simp only [if_pos (shb_eq hk3 hk32 c_45), if_neg c_60, if_neg c_64, if_neg c_69, if_neg c_81, if_pos c_94]; rfl)), ⟨x36, (by first | (rw [cp_0a r_2]; rw [ex36, ex34]; exact jk_fr _ _ _) | (rw [cp_0b r_9]; rw [ex36, ex34]; exact jk_fr _ _ _) | (rw [cp_5 hs hs2 (by first | exact Or.inl (shC_n hq) | exact Or.inr (shC_n hq2))]; rw [ex36, ex34]; exact jk_fr _ _ _) | (rw [cp_s hs hs2 (shC_s hq) (shC_s hq2)]; simp only [if_neg (shb_ne hk3 hk32 c_45)]; rw [ex36, ex34]; exact jk_fr _ _ _) | (rw [cp_s hs hs2 (shC_s hq) (shC_s hq2)]; simp only [if_pos (shb_eq hk3 hk32 c_45), if_pos c_60]; rw [ex36, ex34]; exact jk_fr _ _ _) | (rw [cp_s hs hs2 (shC_s hq) (shC_s hq2)]; simp only [if_pos (shb_eq hk3 hk32 c_45), if_neg c_60, if_pos c_64]; rw [ex36, ex34]; exact jk_fr _ _ _) | (rw [cp_s hs hs2 (shC_s hq) (shC_s hq2)]; simp only [if_pos (shb_eq hk3 hk32 c_45), if_neg c_60, if_neg c_64, if_pos c_69]; rw [ex36, ex34]; exact jk_fr _ _ _) | (rw [cp_s hs hs2 (shC_s hq) (shC_s hq2)]; simp only [if_pos (shb_eq hk3 hk32 c_45), if_neg c_60, if_neg c_64, if_neg c_69, if_pos c_81]; rw [ex36, ex34]; exact jk_fr _ _ _) | (rw [cp_s hs hs2 (shC_s hq) (shC_s hq2)]; simp only [if_pos (shb_eq hk3 hk32 c_45), if_neg c_60, if_neg c_64, if_neg c_69, if_neg c_81, if_pos c_94]; rw [ex36, ex34]; exact jk_fr _ _ _)), by rw [ht]; exact hI⟩, hS.F ht⟩) hS.2.2 dX0_copy_132
                    · skip
                      refine lv_iconst (v := 1) hx hb dX0_copy_97 (by decide) ?_
                      refine lv_goto (tgt := 102) hx hb dX0_copy_98 (by decide) ?_
                      refine lv_iconst (v := 0) hx hb dX0_copy_102 (by decide) ?_
                      refine c_m (k_V (As := [.int 1, .int 0]) (rest := []) F (k_X0_need_ok x 1 0 (by decide)) (cwV 2 hts (lw_V q885 q887 qs25 q91 q888) rfl rfl rfl (by decide +kernel) ⟨Nat.le_of_ble_eq_true rfl, Nat.le_of_ble_eq_true rfl⟩) hI hK (hw.recv hI hK (cf_main) rfl) rfl hl.1 rfl (Nat.le_of_ble_eq_true rfl) dX0_copy_103 ⟨Nat.le_of_ble_eq_true rfl, Nat.le_of_ble_eq_true rfl⟩) hS (fun H1 locs1 hI hS => ?_)
                      obtain ⟨ν, σ, δ, b1, b2, en, efr, eto, h40⟩ := cp_nat hn hn2 c_60 c_64 c_69 c_81 c_94
                      obtain rfl : t = t2 := shb_eq hk3 hk32 c_45
                      have hB := cp_s (fr := fr) (to := to) (n := n) hs hs2 (shC_s hq) (shC_s hq2)
                      simp only [if_true, if_neg c_60, if_neg c_64, if_neg c_69, if_neg c_81, if_neg c_94] at hB
                      subst en
                      subst efr
                      subst eto
                      refine lv_aload hx hb dX0_copy_106 (lv_at hl 1 rfl) ?_
                      refine lv_iload_n hx hb dX0_copy_108 rfl (lv_at hl 4 rfl) ?_
                      refine lv_aload hx hb dX0_copy_109 (lv_at hl 0 rfl) ?_
                      refine lv_iload hx hb dX0_copy_111 (lv_at hl 6 rfl) ?_
                      refine lv_iload hx hb dX0_copy_113 (lv_at hl 7 rfl) ?_
                      refine c_m (k_SI (As := [.ref sa, .int (nI σ), .ref sa2, .int (nI δ), .int (nI ν)]) (rest := []) F (k_X0_slide x sn sa t sz sg hs hq hk3 hn sn2 sa2 sz2 sg2 hs2 hq2 hn2 σ δ ν (by omega) (by omega) hsg) (va_cwS 5 hts (lw_S q1118 q1119 q91 q1120) rfl rfl rfl (by decide +kernel) ⟨Nat.le_of_ble_eq_true rfl, Nat.le_of_ble_eq_true rfl⟩) hI hK rfl hl.1 rfl (Nat.le_of_ble_eq_true rfl) dX0_copy_115 ⟨Nat.le_of_ble_eq_true rfl, Nat.le_of_ble_eq_true rfl⟩) hS (fun H1 locs1 hI hS => ?_)
                      obtain ⟨x37, ex37⟩ : ∃ z, z = xsh x sn2 (some (sa2, t, sz2, va_cpy sg sg2 σ δ ν)) := ⟨_, rfl⟩
                      rw [← ex37] at hI
                      refine lv_iload hx hb dX0_copy_118 (lv_at hl 7 rfl) ?_
                      exact W.iret hx hb hr (fun t ht _ => ⟨rI (by rw [hB]; rfl), ⟨x37, (by rw [hB]; refine jk_eq ?_; rw [ex37, aCP, nI_clamp (by omega), nI_clamp (by omega), nI_clamp (by omega), nI_clamp (by omega), nI_clamp (by omega), hq2, hq]; rfl), by rw [ht]; exact hI⟩, hS.F ht⟩) hS.2.2 dX0_copy_120
set_option maxHeartbeats 1000000 in
theorem k_X0_wasSo {l : Launch} {D : va_G} {L : Nat → Nat} {A : Nat → Prop} (x : cst) (hO : wOk (x.1 0)) (hd : isN (x.1 0 1 2) 10000) (sn sa t sz : Nat) (sg : Nat → Int32) (hs4 : sn < 4) (hq : x.2.2.2 sn = some (sa, t, sz, sg)) (ht3 : t < 3) (hn40 : sz ≤ 40) (k : Nat) (hk : k < 8) : Met l yX0_wasSo (wsW_ yX0_wasSo cX0_wasSo 6 (some .boolean) [((11 : Nat), (78 : Nat), (92 : Nat), (0 : Nat)), ((92 : Nat), (94 : Nat), (92 : Nat), (0 : Nat))]) ({ frames := 6, cells := 0, slots := 0, locals := 130 } : Room) (va_Pc [.ref (L 44), .ref sa, .int (nI k)] (pI D (cfC D L x) A)) (nQ D (cfC D L (xs x 2 (x.1 0))) A (some (.int (wsoI (x.1 0) k (t, sz, sg))))) 0 0 A := by
  refine met_W (by decide) rfl (Nat.le_of_ble_eq_true rfl) ?_
  intro p e s m below meth c ls hx hb hr hml hown hts hlocks hl hI hK hhh
  have F : CallFix p m c cX0_wasSo 6 s _ lw_all RX0 := ⟨hx, hb, hml, hown, hts⟩
  have hl : lv_has ls 6 [(0, .ref (L 44)), (1, .ref sa), (2, .int (nI k))] := hl
  have hS : va_S A s.heap s.heap [] := va_S.rf
  refine lv_aload_n hx hb dX0_wasSo_0 rfl (lv_at hl 0 rfl) ?_
  refine r_get (C := RX0) (T := TX0) (N := 11) hx hb hts in_X0 hown hK hI (cf_main) rfl 5 (by decide) (hts _ q403) (fun _ h => h) rfl dX0_wasSo_1 ?_
  refine lv_aload_n hx hb dX0_wasSo_4 rfl (lv_at hl 0 rfl) ?_
  refine r_get (C := RX0) (T := TX0) (N := 11) hx hb hts in_X0 hown hK hI (cf_main) rfl 3 (by decide) (hts _ q401) (fun _ h => h) rfl dX0_wasSo_5 ?_
  refine c_m (k_V (As := [.ref (L (11 * 0))]) (rest := []) F (k_X4_become x 2 (by decide) 0 (by decide) (by decide)) (cwV 1 hts (lw_V q776 q777 q778 q98 q779) rfl rfl rfl (by decide +kernel) ⟨Nat.le_of_ble_eq_true rfl, Nat.le_of_ble_eq_true rfl⟩) hI hK (hw.recv hI hK (cf_W (w := 2) (by decide)) rfl) rfl hl.1 rfl (Nat.le_of_ble_eq_true rfl) dX0_wasSo_8 ⟨Nat.le_of_ble_eq_true rfl, Nat.le_of_ble_eq_true rfl⟩) hS (fun H1 locs1 hI hS => ?_)
  obtain ⟨x1, ex1⟩ : ∃ z, z = xs x 2 (x.1 0) := ⟨_, rfl⟩
  rw [← ex1] at hI
  have hO_x1 : wOk (x1.1 0) := by rw [ex1, xs_ne (by decide)]; exact hO
  have hd_x1 : isN (x1.1 0 1 2) 10000 := by rw [ex1, xs_ne (by decide)]; exact hd
  refine lv_iconst (v := 1) hx hb dX0_wasSo_11 (by decide) ?_
  refine lv_istore_n (lv' := [(3, .int 1), (0, .ref (L 44)), (1, .ref sa), (2, .int (nI k))]) hx hb dX0_wasSo_12 rfl hl (by decide) rfl (fun ls hl => ?_)
  refine lv_iconst (v := 0) hx hb dX0_wasSo_13 (by decide) ?_
  refine lv_istore (lv' := [(4, .int 0), (3, .int 1), (0, .ref (L 44)), (1, .ref sa), (2, .int (nI k))]) hx hb dX0_wasSo_14 hl (by decide) rfl (fun ls hl => ?_)
  have lp16 : ∀ (fuel : Nat) (i : Nat), (i ≤ sz) → sz - i < fuel → ∀ (v3 : Int32) (v4 : Int32), v3 = (itr (wsoS (x.1 0) k (t, sz, sg)) 1 i) → v4 = nI i → ∀ (xc16 : cst), xc16 = xs (xs x 2 (x.1 0)) 0 (psn (x.1 0) i) → ∀ (H : Heap) (locs : List Loc), hw D (cfC D L xc16) A H → va_S A s.heap H locs → ∀ (ls : Array Slot), lv_has ls 6 [(0, .ref (L 44)), (1, .ref sa), (2, .int (nI k)), (3, .int v3), (4, .int v4)] → W p l e ({ frames := 6, cells := 0, slots := 0, locals := 130 } : Room) s m ([.ref (L 44), .ref sa, .int (nI k)] : List Value).toArray below meth c H locs 0 0 (MQ below (nQ D (cfC D L (xs x 2 (x.1 0))) A (some (.int (wsoI (x.1 0) k (t, sz, sg))))) ([.ref (L 44), .ref sa, .int (nI k)] : List Value).toArray s 0 0 A) (F0 m 16 ls []) := by
    intro fuel
    induction fuel with
    | zero => intro i hi hf; exact absurd hf (Nat.not_lt_zero _)
    | succ fuel ih16 =>
      intro i hi hf16 v3 v4 e3 e4  xc16 exc16 H locs hI hS ls hl
      subst e3 e4
      have hO_xc16 : wOk (xc16.1 0) := by rw [exc16, xs_at]; exact wOk_psn hO hd i (by omega)
      have hf : xc16.1 0 = psn (x.1 0) i := by rw [exc16, xs_at]
      have hq_xc16 : xc16.2.2.2 sn = some (sa, t, sz, sg) := by rw [exc16]; exact hq
      refine lv_iload_n hx hb dX0_wasSo_16 rfl (lv_at hl 3 rfl) ?_
      refine lv_if_eq (tgt := 75) hx hb dX0_wasSo_17 (by decide) (fun c_17 => ?_) (fun c_17 => ?_)
      · skip
        refine lv_iload_n hx hb dX0_wasSo_75 rfl (lv_at hl 3 rfl) ?_
        refine lv_istore (lv' := [(4, .int (itr (wsoS (x.1 0) k (t, sz, sg)) 1 i)), (0, .ref (L 44)), (1, .ref sa), (2, .int (nI k)), (3, .int (itr (wsoS (x.1 0) k (t, sz, sg)) 1 i))]) hx hb dX0_wasSo_76 hl (by decide) rfl (fun ls hl => ?_)
        refine lv_aload_n hx hb dX0_wasSo_78 rfl (lv_at hl 1 rfl) ?_
        refine r_get (C := RX0) (T := TX0) (N := 11) hx hb hts in_X0 hown hK hI (cf_main) rfl 3 (by decide) (hts _ q401) (fun _ h => h) rfl dX0_wasSo_79 ?_
        refine lv_aload_n hx hb dX0_wasSo_82 rfl (lv_at hl 1 rfl) ?_
        refine r_get (C := RX0) (T := TX0) (N := 11) hx hb hts in_X0 hown hK hI (cf_main) rfl 5 (by decide) (hts _ q403) (fun _ h => h) rfl dX0_wasSo_83 ?_
        refine c_m (k_V (As := [.ref (L (11 * 2))]) (rest := []) F (k_X4_become xc16 0 (by decide) 2 (by decide) (by decide)) (cwV 1 hts (lw_V q776 q777 q778 q98 q779) rfl rfl rfl (by decide +kernel) ⟨Nat.le_of_ble_eq_true rfl, Nat.le_of_ble_eq_true rfl⟩) hI hK (hw.recv hI hK (cf_W (w := 0) (by decide)) rfl) rfl hl.1 rfl (Nat.le_of_ble_eq_true rfl) dX0_wasSo_86 ⟨Nat.le_of_ble_eq_true rfl, Nat.le_of_ble_eq_true rfl⟩) hS (fun H1 locs1 hI hS => ?_)
        obtain ⟨x2, ex2⟩ : ∃ z, z = xs xc16 0 (xc16.1 2) := ⟨_, rfl⟩
        rw [← ex2] at hI
        refine lv_iload hx hb dX0_wasSo_89 (lv_at hl 0 rfl) ?_
        exact W.zret hx hb hr (t_bl2 (wsoS_01 _ _ _ _)) (fun t ht _ => ⟨rI (ws_end (z := (_, sz, sg)) hi (by first | (left; exact c_17) | (right; show sz ≤ i; omega))), by rw [ht]; exact hw_eq hI (congrArg (cfC D L) (by rw [ex2, exc16]; simp only [xs_at, xs_c0, xs_xs]; exact xs_20 x)), hS.F ht⟩) hS.2.2 dX0_wasSo_91
      · skip
        refine lv_iload hx hb dX0_wasSo_20 (lv_at hl 4 rfl) ?_
        refine lv_aload_n hx hb dX0_wasSo_22 rfl (lv_at hl 1 rfl) ?_
        refine c_r (k_SI (As := [.ref sa]) (rest := [.int (nI i)]) F (k_X0_length xc16 sn sa t sz sg hs4 (hq_xc16) ht3 hn40) (va_cwS 1 hts (lw_S q897 q898 q91 q899) rfl rfl rfl (by decide +kernel) ⟨Nat.le_of_ble_eq_true rfl, Nat.le_of_ble_eq_true rfl⟩) hI hK rfl hl.1 rfl (Nat.le_of_ble_eq_true rfl) dX0_wasSo_23 ⟨Nat.le_of_ble_eq_true rfl, Nat.le_of_ble_eq_true rfl⟩) ?_
        refine lv_icmp_ge (tgt := 75) hx hb dX0_wasSo_26 (by decide) (fun c_26 => ?_) (fun c_26 => ?_)
        · skip
          have c_26 : sz ≤ i := (nle (a := sz) (b := i) (rfl) (rfl) (by omega) (by omega)).mp c_26
          refine lv_iload_n hx hb dX0_wasSo_75 rfl (lv_at hl 3 rfl) ?_
          refine lv_istore (lv' := [(4, .int (itr (wsoS (x.1 0) k (t, sz, sg)) 1 i)), (0, .ref (L 44)), (1, .ref sa), (2, .int (nI k)), (3, .int (itr (wsoS (x.1 0) k (t, sz, sg)) 1 i))]) hx hb dX0_wasSo_76 hl (by decide) rfl (fun ls hl => ?_)
          refine lv_aload_n hx hb dX0_wasSo_78 rfl (lv_at hl 1 rfl) ?_
          refine r_get (C := RX0) (T := TX0) (N := 11) hx hb hts in_X0 hown hK hI (cf_main) rfl 3 (by decide) (hts _ q401) (fun _ h => h) rfl dX0_wasSo_79 ?_
          refine lv_aload_n hx hb dX0_wasSo_82 rfl (lv_at hl 1 rfl) ?_
          refine r_get (C := RX0) (T := TX0) (N := 11) hx hb hts in_X0 hown hK hI (cf_main) rfl 5 (by decide) (hts _ q403) (fun _ h => h) rfl dX0_wasSo_83 ?_
          refine c_m (k_V (As := [.ref (L (11 * 2))]) (rest := []) F (k_X4_become xc16 0 (by decide) 2 (by decide) (by decide)) (cwV 1 hts (lw_V q776 q777 q778 q98 q779) rfl rfl rfl (by decide +kernel) ⟨Nat.le_of_ble_eq_true rfl, Nat.le_of_ble_eq_true rfl⟩) hI hK (hw.recv hI hK (cf_W (w := 0) (by decide)) rfl) rfl hl.1 rfl (Nat.le_of_ble_eq_true rfl) dX0_wasSo_86 ⟨Nat.le_of_ble_eq_true rfl, Nat.le_of_ble_eq_true rfl⟩) hS (fun H1 locs1 hI hS => ?_)
          obtain ⟨x3, ex3⟩ : ∃ z, z = xs xc16 0 (xc16.1 2) := ⟨_, rfl⟩
          rw [← ex3] at hI
          refine lv_iload hx hb dX0_wasSo_89 (lv_at hl 0 rfl) ?_
          exact W.zret hx hb hr (t_bl2 (wsoS_01 _ _ _ _)) (fun t ht _ => ⟨rI (ws_end (z := (_, sz, sg)) hi (by first | (left; exact c_17) | (right; show sz ≤ i; omega))), by rw [ht]; exact hw_eq hI (congrArg (cfC D L) (by rw [ex3, exc16]; simp only [xs_at, xs_c0, xs_xs]; exact xs_20 x)), hS.F ht⟩) hS.2.2 dX0_wasSo_91
        · skip
          have c_26 : ¬ sz ≤ i := fun z => c_26 ((nle (a := sz) (b := i) (rfl) (rfl) (by omega) (by omega)).mpr z)
          refine lv_aload_n hx hb dX0_wasSo_29 rfl (lv_at hl 1 rfl) ?_
          refine lv_iload hx hb dX0_wasSo_30 (lv_at hl 4 rfl) ?_
          refine c_r (k_SI (As := [.ref sa, .int (nI i)]) (rest := []) F (k_X0_number xc16 sn sa t sz sg hs4 (hq_xc16) ht3 hn40 i (by omega)) (va_cwS 2 hts (lw_S q903 q904 q91 q905) rfl rfl rfl (by decide +kernel) ⟨Nat.le_of_ble_eq_true rfl, Nat.le_of_ble_eq_true rfl⟩) hI hK rfl hl.1 rfl (Nat.le_of_ble_eq_true rfl) dX0_wasSo_32 ⟨Nat.le_of_ble_eq_true rfl, Nat.le_of_ble_eq_true rfl⟩) ?_
          refine lv_iconst (v := (-1)) hx hb dX0_wasSo_35 (by decide) ?_
          refine lv_icmp_eq (tgt := 59) hx hb dX0_wasSo_36 (by decide) (fun c_36 => ?_) (fun c_36 => ?_)
          · skip
            refine lv_iconst (v := 1) hx hb dX0_wasSo_59 (by decide) ?_
            refine lv_goto (tgt := 64) hx hb dX0_wasSo_60 (by decide) ?_
            refine lv_istore_n (lv' := [(3, .int 1), (0, .ref (L 44)), (1, .ref sa), (2, .int (nI k)), (4, .int (nI i))]) hx hb dX0_wasSo_64 rfl hl (by decide) rfl (fun ls hl => ?_)
            refine lv_aload_n hx hb dX0_wasSo_65 rfl (lv_at hl 1 rfl) ?_
            refine c_m (k_V (As := []) (rest := []) F (k_X0_passes_2 xc16 (hO_xc16)) (cwV 0 hts (lw_V q713 q715 qs9 q91 q716) rfl rfl rfl (by decide +kernel) ⟨Nat.le_of_ble_eq_true rfl, Nat.le_of_ble_eq_true rfl⟩) hI hK (hw.recv hI hK (cf_main) rfl) rfl hl.1 rfl (Nat.le_of_ble_eq_true rfl) dX0_wasSo_66 ⟨Nat.le_of_ble_eq_true rfl, Nat.le_of_ble_eq_true rfl⟩) hS (fun H1 locs1 hI hS => ?_)
            obtain ⟨x4, ex4⟩ : ∃ z, z = xs xc16 0 (psw (xc16.1 0)) := ⟨_, rfl⟩
            rw [← ex4] at hI
            refine lv_iinc (v := (nI (i + 1))) (lv' := [(4, .int (nI (i + 1))), (3, .int 1), (0, .ref (L 44)), (1, .ref sa), (2, .int (nI k))]) hx hb dX0_wasSo_69 hl (k := 4) rfl (nI_1 _) (by decide) rfl (fun ls hl => ?_)
            refine lv_goto (tgt := 16) hx hb dX0_wasSo_72 (by decide) ?_
            exact ih16 (i + 1) (by omega) (by omega) 1 (nI (i + 1)) (by rw [itr_s, wsoS, if_neg c_17]; first | (rw [if_pos c_36]; done) | (rw [if_neg c_36]; rw [hf] at c_56; first | rw [if_pos c_56] | rw [if_neg c_56]; done)) (rfl) x4 (by rw [ex4, exc16]; simp only [xs_at, xs_xs]; rfl) _ _ hI hS ls (lv_sub hl [2, 3, 4, 1, 0] rfl)
          · skip
            refine lv_aload_n hx hb dX0_wasSo_39 rfl (lv_at hl 1 rfl) ?_
            refine lv_iload hx hb dX0_wasSo_40 (lv_at hl 4 rfl) ?_
            refine c_r (k_SI (As := [.ref sa, .int (nI i)]) (rest := []) F (k_X0_number xc16 sn sa t sz sg hs4 (hq_xc16) ht3 hn40 i (by omega)) (va_cwS 2 hts (lw_S q903 q904 q91 q905) rfl rfl rfl (by decide +kernel) ⟨Nat.le_of_ble_eq_true rfl, Nat.le_of_ble_eq_true rfl⟩) hI hK rfl hl.1 rfl (Nat.le_of_ble_eq_true rfl) dX0_wasSo_42 ⟨Nat.le_of_ble_eq_true rfl, Nat.le_of_ble_eq_true rfl⟩) ?_
            refine lv_aload_n hx hb dX0_wasSo_45 rfl (lv_at hl 0 rfl) ?_
            refine r_get (C := RX0) (T := TX0) (N := 11) hx hb hts in_X0 hown hK hI (cf_main) rfl 3 (by decide) (hts _ q401) (fun _ h => h) rfl dX0_wasSo_46 ?_
            refine r_getN (C := RX4) (T := TX4) (N := 7) hx hb hts in_X4 hown hK hI (cf_W (w := 0) (by decide)) rfl 2 (by decide) (nf_7 hK) (fun _ h => h) rfl dX0_wasSo_49 ?_
            refine lv_iconst (v := 3) hx hb dX0_wasSo_52 (by decide) ?_
            refine n_aaldI (f := fun r => L (11 * 0 + 3 + r)) (k := 3) hx hb hK hI (cf_glove (w := 0) (by decide)) (rfl) (by decide) (by decide) dX0_wasSo_53 ?_
            refine lv_iload_n hx hb dX0_wasSo_54 rfl (lv_at hl 2 rfl) ?_
            refine n_iald (k := k) hx hb hK hI (cf_row (w := 0) (r := 3) (by decide) (by decide)) (rfl) (by omega) (by decide) dX0_wasSo_55 ?_
            refine lv_icmp_ne (tgt := 63) hx hb dX0_wasSo_56 (by decide) (fun c_56 => ?_) (fun c_56 => ?_)
            · skip
              refine lv_iconst (v := 0) hx hb dX0_wasSo_63 (by decide) ?_
              refine lv_istore_n (lv' := [(3, .int 0), (0, .ref (L 44)), (1, .ref sa), (2, .int (nI k)), (4, .int (nI i))]) hx hb dX0_wasSo_64 rfl hl (by decide) rfl (fun ls hl => ?_)
              refine lv_aload_n hx hb dX0_wasSo_65 rfl (lv_at hl 1 rfl) ?_
              refine c_m (k_V (As := []) (rest := []) F (k_X0_passes_2 xc16 (hO_xc16)) (cwV 0 hts (lw_V q713 q715 qs9 q91 q716) rfl rfl rfl (by decide +kernel) ⟨Nat.le_of_ble_eq_true rfl, Nat.le_of_ble_eq_true rfl⟩) hI hK (hw.recv hI hK (cf_main) rfl) rfl hl.1 rfl (Nat.le_of_ble_eq_true rfl) dX0_wasSo_66 ⟨Nat.le_of_ble_eq_true rfl, Nat.le_of_ble_eq_true rfl⟩) hS (fun H1 locs1 hI hS => ?_)
              obtain ⟨x5, ex5⟩ : ∃ z, z = xs xc16 0 (psw (xc16.1 0)) := ⟨_, rfl⟩
              rw [← ex5] at hI
              refine lv_iinc (v := (nI (i + 1))) (lv' := [(4, .int (nI (i + 1))), (3, .int 0), (0, .ref (L 44)), (1, .ref sa), (2, .int (nI k))]) hx hb dX0_wasSo_69 hl (k := 4) rfl (nI_1 _) (by decide) rfl (fun ls hl => ?_)
              refine lv_goto (tgt := 16) hx hb dX0_wasSo_72 (by decide) ?_
              exact ih16 (i + 1) (by omega) (by omega) 0 (nI (i + 1)) (by rw [itr_s, wsoS, if_neg c_17]; first | (rw [if_pos c_36]; done) | (rw [if_neg c_36]; rw [hf] at c_56; first | rw [if_pos c_56] | rw [if_neg c_56]; done)) (rfl) x5 (by rw [ex5, exc16]; simp only [xs_at, xs_xs]; rfl) _ _ hI hS ls (lv_sub hl [2, 3, 4, 1, 0] rfl)
            · skip
              refine lv_iconst (v := 1) hx hb dX0_wasSo_59 (by decide) ?_
              refine lv_goto (tgt := 64) hx hb dX0_wasSo_60 (by decide) ?_
              refine lv_istore_n (lv' := [(3, .int 1), (0, .ref (L 44)), (1, .ref sa), (2, .int (nI k)), (4, .int (nI i))]) hx hb dX0_wasSo_64 rfl hl (by decide) rfl (fun ls hl => ?_)
              refine lv_aload_n hx hb dX0_wasSo_65 rfl (lv_at hl 1 rfl) ?_
              refine c_m (k_V (As := []) (rest := []) F (k_X0_passes_2 xc16 (hO_xc16)) (cwV 0 hts (lw_V q713 q715 qs9 q91 q716) rfl rfl rfl (by decide +kernel) ⟨Nat.le_of_ble_eq_true rfl, Nat.le_of_ble_eq_true rfl⟩) hI hK (hw.recv hI hK (cf_main) rfl) rfl hl.1 rfl (Nat.le_of_ble_eq_true rfl) dX0_wasSo_66 ⟨Nat.le_of_ble_eq_true rfl, Nat.le_of_ble_eq_true rfl⟩) hS (fun H1 locs1 hI hS => ?_)
              obtain ⟨x6, ex6⟩ : ∃ z, z = xs xc16 0 (psw (xc16.1 0)) := ⟨_, rfl⟩
              rw [← ex6] at hI
              refine lv_iinc (v := (nI (i + 1))) (lv' := [(4, .int (nI (i + 1))), (3, .int 1), (0, .ref (L 44)), (1, .ref sa), (2, .int (nI k))]) hx hb dX0_wasSo_69 hl (k := 4) rfl (nI_1 _) (by decide) rfl (fun ls hl => ?_)
              refine lv_goto (tgt := 16) hx hb dX0_wasSo_72 (by decide) ?_
              exact ih16 (i + 1) (by omega) (by omega) 1 (nI (i + 1)) (by rw [itr_s, wsoS, if_neg c_17]; first | (rw [if_pos c_36]; done) | (rw [if_neg c_36]; rw [hf] at c_56; first | rw [if_pos c_56] | rw [if_neg c_56]; done)) (rfl) x6 (by rw [ex6, exc16]; simp only [xs_at, xs_xs]; rfl) _ _ hI hS ls (lv_sub hl [2, 3, 4, 1, 0] rfl)
  exact lp16 (_ + 1) (0) (Nat.zero_le _) (Nat.lt_succ_self _) 1 0 (rfl) (rfl) x1 (by rw [ex1]; exact (xs_20 x).symm) _ _ hI hS ls (lv_sub hl [2, 3, 4, 1, 0] rfl)
set_option maxHeartbeats 2000000 in
theorem k_X0_allThatFit_ok {l : Launch} {D : va_G} {L : Nat → Nat} {A : Nat → Prop} (x : cst) (hO : wOk (x.1 0)) (hd : isN (x.1 0 1 2) 10000) (sn sa t sz : Nat) (sg : Nat → Int32) (hs4 : sn < 4) (hq : x.2.2.2 sn = some (sa, t, sz, sg)) (ht3 : t < 3) (hn40 : sz ≤ 40) (k r many : Nat) (hk8 : k < 8) (hg1 : ¬ isGlI (x.1 0) (nI k) = 0) (hrm : (r = 0 ∧ many ≤ 7) ∨ (r = 1 ∧ many ≤ 6)) : Met l yX0_allThatFit (ws_ yX0_allThatFit cX0_allThatFit 9 (some .int)) ({ frames := 7, cells := 0, slots := 0, locals := 155 } : Room) (va_Pc [.ref (L 44), .int (nI sn), .int (nI k), .int (nI r), .int (nI many)] (pI D (cfC D L x) A)) (jQ D L x A (some (.int (ftI (x.1 0) k r many (t, sz, sg))))) 0 0 A := by
  refine met_I (by decide) rfl (Nat.le_of_ble_eq_true rfl) ?_
  intro p e s m below meth c ls hx hb hr hml hown hts hlocks hl hI hK
  have F : CallFix p m c cX0_allThatFit 9 s _ lw_all RX0 := ⟨hx, hb, hml, hown, hts⟩
  have hl : lv_has ls 9 [(0, .ref (L 44)), (1, .int (nI sn)), (2, .int (nI k)), (3, .int (nI r)), (4, .int (nI many))] := hl
  have hS : va_S A s.heap s.heap [] := va_S.rf
  have hs := hs4
  have hk3 := ht3
  have hn := hn40
  refine lv_aload_n hx hb dX0_allThatFit_0 rfl (lv_at hl 0 rfl) ?_
  refine lv_iload_n hx hb dX0_allThatFit_1 rfl (lv_at hl 1 rfl) ?_
  refine c_m (k_V (As := [.int (nI sn)]) (rest := []) F (k_X0_rowAt_r x sn (by omega) sa t sz sg hq) (cwV 1 hts (lw_V q878 q880 qs24 q91 q881) rfl rfl rfl (by decide +kernel) ⟨Nat.le_of_ble_eq_true rfl, Nat.le_of_ble_eq_true rfl⟩) hI hK (hw.recv hI hK (cf_main) rfl) rfl hl.1 rfl (Nat.le_of_ble_eq_true rfl) dX0_allThatFit_2 ⟨Nat.le_of_ble_eq_true rfl, Nat.le_of_ble_eq_true rfl⟩) hS (fun H1 locs1 hI hS => ?_)
  refine lv_astore (lv' := [(5, .ref sa), (0, .ref (L 44)), (1, .int (nI sn)), (2, .int (nI k)), (3, .int (nI r)), (4, .int (nI many))]) hx hb dX0_allThatFit_5 hl (by decide) rfl (fun ls hl => ?_)
  refine lv_aload_n hx hb dX0_allThatFit_7 rfl (lv_at hl 1 rfl) ?_
  refine lv_aload hx hb dX0_allThatFit_8 (lv_at hl 0 rfl) ?_
  refine lv_ifnull hx hb dX0_allThatFit_10 ?_
  refine lv_iconst (v := 1) hx hb dX0_allThatFit_13 (by decide) ?_
  refine lv_goto (tgt := 18) hx hb dX0_allThatFit_14 (by decide) ?_
  refine lv_iconst (v := 5) hx hb dX0_allThatFit_18 (by decide) ?_
  refine c_m (k_V (As := [.int 1, .int 5]) (rest := []) F (k_X0_need_ok x 1 5 (by decide)) (cwV 2 hts (lw_V q885 q887 qs25 q91 q888) rfl rfl rfl (by decide +kernel) ⟨Nat.le_of_ble_eq_true rfl, Nat.le_of_ble_eq_true rfl⟩) hI hK (hw.recv hI hK (cf_main) rfl) rfl hl.1 rfl (Nat.le_of_ble_eq_true rfl) dX0_allThatFit_19 ⟨Nat.le_of_ble_eq_true rfl, Nat.le_of_ble_eq_true rfl⟩) hS (fun H1 locs1 hI hS => ?_)
  refine lv_aload_n hx hb dX0_allThatFit_22 rfl (lv_at hl 1 rfl) ?_
  refine lv_aload_n hx hb dX0_allThatFit_23 rfl (lv_at hl 1 rfl) ?_
  refine lv_iload_n hx hb dX0_allThatFit_24 rfl (lv_at hl 3 rfl) ?_
  refine c_r (k_V (As := [.int (nI k)]) (rest := [.ref (L 44)]) F (k_X0_isGlove x (nI k)) (cwV 1 hts (lw_V q543 q545 qs5 q91 q546) rfl rfl rfl (by decide +kernel) ⟨Nat.le_of_ble_eq_true rfl, Nat.le_of_ble_eq_true rfl⟩) hI hK (hw.recv hI hK (cf_main) rfl) rfl hl.1 rfl (Nat.le_of_ble_eq_true rfl) dX0_allThatFit_25 ⟨Nat.le_of_ble_eq_true rfl, Nat.le_of_ble_eq_true rfl⟩) ?_
  refine lv_iconst (v := 0) hx hb dX0_allThatFit_28 (by decide) ?_
  refine c_m (k_V (As := [.int (isGlI (x.1 0) (nI k)), .int 0]) (rest := []) F (k_X0_need_ok x (isGlI (x.1 0) (nI k)) 0 (hg1)) (cwV 2 hts (lw_V q885 q887 qs25 q91 q888) rfl rfl rfl (by decide +kernel) ⟨Nat.le_of_ble_eq_true rfl, Nat.le_of_ble_eq_true rfl⟩) hI hK (hw.recv hI hK (cf_main) rfl) rfl hl.1 rfl (Nat.le_of_ble_eq_true rfl) dX0_allThatFit_29 ⟨Nat.le_of_ble_eq_true rfl, Nat.le_of_ble_eq_true rfl⟩) hS (fun H1 locs1 hI hS => ?_)
  refine lv_aload_n hx hb dX0_allThatFit_32 rfl (lv_at hl 1 rfl) ?_
  refine r_get (C := RX0) (T := TX0) (N := 11) hx hb hts in_X0 hown hK hI (cf_main) rfl 3 (by decide) (hts _ q401) (fun _ h => h) rfl dX0_allThatFit_33 ?_
  refine r_getN (C := RX4) (T := TX4) (N := 7) hx hb hts in_X4 hown hK hI (cf_W (w := 0) (by decide)) rfl 2 (by decide) (nf_7 hK) (fun _ h => h) rfl dX0_allThatFit_36 ?_
  refine lv_iload_n hx hb dX0_allThatFit_39 rfl (lv_at hl 4 rfl) ?_
  refine n_aaldI (f := fun r => L (11 * 0 + 3 + r)) (k := r) hx hb hK hI (cf_glove (w := 0) (by decide)) (rfl) (by omega) (by decide) dX0_allThatFit_40 ?_
  refine lv_iload_n hx hb dX0_allThatFit_41 rfl (lv_at hl 3 rfl) ?_
  refine n_iald (k := k) hx hb hK hI (cf_row (w := 0) (r := r) (by decide) (by omega)) (rfl) (by omega) (by decide) dX0_allThatFit_42 ?_
  refine lv_istore (lv' := [(6, .int (x.1 0 (2 + r) k)), (5, .ref sa), (0, .ref (L 44)), (1, .int (nI sn)), (2, .int (nI k)), (3, .int (nI r)), (4, .int (nI many))]) hx hb dX0_allThatFit_43 hl (by decide) rfl (fun ls hl => ?_)
  refine lv_iconst (v := 0) hx hb dX0_allThatFit_45 (by decide) ?_
  refine lv_istore (lv' := [(7, .int 0), (6, .int (x.1 0 (2 + r) k)), (5, .ref sa), (0, .ref (L 44)), (1, .int (nI sn)), (2, .int (nI k)), (3, .int (nI r)), (4, .int (nI many))]) hx hb dX0_allThatFit_46 hl (by decide) rfl (fun ls hl => ?_)
  refine lv_iconst (v := 0) hx hb dX0_allThatFit_48 (by decide) ?_
  refine lv_istore (lv' := [(8, .int 0), (7, .int 0), (6, .int (x.1 0 (2 + r) k)), (5, .ref sa), (0, .ref (L 44)), (1, .int (nI sn)), (2, .int (nI k)), (3, .int (nI r)), (4, .int (nI many))]) hx hb dX0_allThatFit_49 hl (by decide) rfl (fun ls hl => ?_)
  have lp51 : ∀ (fuel : Nat) (a : wd) (g : wd) (i : Nat), (i ≤ many) → (∀ v, u2 g (2 + r) k v = u2 (x.1 0) (2 + r) k v) → many - i < fuel → ∀ (v7 : Int32) (v8 : Int32), v7 = (itr (ftS (x.1 0) k r (t, sz, sg)) 0 i) → v8 = nI i → ∀ (xc51 : cst), xc51 = xs (xs x 2 a) 0 g → ∀ (H : Heap) (locs : List Loc), hw D (cfC D L xc51) A H → va_S A s.heap H locs → ∀ (ls : Array Slot), lv_has ls 9 [(0, .ref (L 44)), (1, .int (nI sn)), (2, .int (nI k)), (3, .int (nI r)), (4, .int (nI many)), (5, .ref sa), (6, .int (x.1 0 (2 + r) k)), (7, .int v7), (8, .int v8)] → W p l e ({ frames := 7, cells := 0, slots := 0, locals := 155 } : Room) s m ([.ref (L 44), .int (nI sn), .int (nI k), .int (nI r), .int (nI many)] : List Value).toArray below meth c H locs 0 0 (MQ below (jQ D L x A (some (.int (ftI (x.1 0) k r many (t, sz, sg))))) ([.ref (L 44), .int (nI sn), .int (nI k), .int (nI r), .int (nI many)] : List Value).toArray s 0 0 A) (F0 m 51 ls []) := by
    intro fuel
    induction fuel with
    | zero => intro a g i hi hg hf; exact absurd hf (Nat.not_lt_zero _)
    | succ fuel ih51 =>
      intro a g i hi hg hf51 v7 v8 e7 e8  xc51 exc51 H locs hI hS ls hl
      subst e7 e8
      refine lv_iload hx hb dX0_allThatFit_51 (lv_at hl 8 rfl) ?_
      refine lv_iload hx hb dX0_allThatFit_53 (lv_at hl 4 rfl) ?_
      refine lv_icmp_ge (tgt := 100) hx hb dX0_allThatFit_55 (by decide) (fun c_55 => ?_) (fun c_55 => ?_)
      · skip
        have c_55 : many ≤ i := (nle (a := many) (b := i) (rfl) (rfl) (by omega) (by omega)).mp c_55
        refine lv_aload_n hx hb dX0_allThatFit_100 rfl (lv_at hl 0 rfl) ?_
        refine r_get (C := RX0) (T := TX0) (N := 11) hx hb hts in_X0 hown hK hI (cf_main) rfl 3 (by decide) (hts _ q401) (fun _ h => h) rfl dX0_allThatFit_101 ?_
        refine r_getN (C := RX4) (T := TX4) (N := 7) hx hb hts in_X4 hown hK hI (cf_W (w := 0) (by decide)) rfl 2 (by decide) (nf_7 hK) (fun _ h => h) rfl dX0_allThatFit_104 ?_
        refine lv_iload_n hx hb dX0_allThatFit_107 rfl (lv_at hl 3 rfl) ?_
        refine n_aaldI (f := fun r => L (11 * 0 + 3 + r)) (k := r) hx hb hK hI (cf_glove (w := 0) (by decide)) (rfl) (by omega) (by decide) dX0_allThatFit_108 ?_
        refine lv_iload_n hx hb dX0_allThatFit_109 rfl (lv_at hl 2 rfl) ?_
        refine lv_iload hx hb dX0_allThatFit_110 (lv_at hl 6 rfl) ?_
        obtain ⟨x1, ex1⟩ : ∃ z, z = xs xc51 0 (u2 (xc51.1 0) (2 + r) k (x.1 0 (2 + r) k)) := ⟨_, rfl⟩
        refine n_iast (cf' := cfC D L x1) (k := k) hx hb hK hI hS (cf_row (w := 0) (r := r) (by decide) (by omega)) (rfl) (by omega) (by decide) (by rw [ex1]; exact cs_row (w := 0) (r := r) (by decide) (by omega)) dX0_allThatFit_112 (fun H1 locs1 hI hS => ?_)
        refine lv_iload hx hb dX0_allThatFit_113 (lv_at hl 7 rfl) ?_
        exact W.iret hx hb hr (fun t ht _ => ⟨rI (by rw [ftI, show i = many by omega]), ⟨x1, (by rw [ex1, exc51]; simp only [xs_at, xs_xs, hg, u2_self]; exact jk_ag _ _), by rw [ht]; exact hI⟩, hS.F ht⟩) hS.2.2 dX0_allThatFit_115
      · skip
        have c_55 : ¬ many ≤ i := fun z => c_55 ((nle (a := many) (b := i) (rfl) (rfl) (by omega) (by omega)).mpr z)
        refine lv_aload_n hx hb dX0_allThatFit_58 rfl (lv_at hl 0 rfl) ?_
        refine r_get (C := RX0) (T := TX0) (N := 11) hx hb hts in_X0 hown hK hI (cf_main) rfl 3 (by decide) (hts _ q401) (fun _ h => h) rfl dX0_allThatFit_59 ?_
        refine r_getN (C := RX4) (T := TX4) (N := 7) hx hb hts in_X4 hown hK hI (cf_W (w := 0) (by decide)) rfl 2 (by decide) (nf_7 hK) (fun _ h => h) rfl dX0_allThatFit_62 ?_
        refine lv_iload_n hx hb dX0_allThatFit_65 rfl (lv_at hl 3 rfl) ?_
        refine n_aaldI (f := fun r => L (11 * 0 + 3 + r)) (k := r) hx hb hK hI (cf_glove (w := 0) (by decide)) (rfl) (by omega) (by decide) dX0_allThatFit_66 ?_
        refine lv_iload_n hx hb dX0_allThatFit_67 rfl (lv_at hl 2 rfl) ?_
        refine lv_iload hx hb dX0_allThatFit_68 (lv_at hl 8 rfl) ?_
        obtain ⟨x2, ex2⟩ : ∃ z, z = xs xc51 0 (u2 (xc51.1 0) (2 + r) k (nI i)) := ⟨_, rfl⟩
        refine n_iast (cf' := cfC D L x2) (k := k) hx hb hK hI hS (cf_row (w := 0) (r := r) (by decide) (by omega)) (rfl) (by omega) (by decide) (by rw [ex2]; exact cs_row (w := 0) (r := r) (by decide) (by omega)) dX0_allThatFit_70 (fun H1 locs1 hI hS => ?_)
        have hx1 : x2.1 0 = u2 (x.1 0) (2 + r) k (nI i) := by rw [ex2, xs_at, exc51, xs_at]; exact hg _
        have hO_x2 : wOk (x2.1 0) := by rw [hx1]; exact wOk_mr hO hrm (by omega)
        have hd_x2 : isN (x2.1 0 1 2) 10000 := by rw [hx1, u2_ne (by omega)]; exact hd
        have hq_x2 : x2.2.2.2 sn = some (sa, t, sz, sg) := by rw [ex2, exc51]; exact hq
        refine lv_iload hx hb dX0_allThatFit_71 (lv_at hl 7 rfl) ?_
        refine lv_aload_n hx hb dX0_allThatFit_73 rfl (lv_at hl 0 rfl) ?_
        refine lv_aload hx hb dX0_allThatFit_74 (lv_at hl 5 rfl) ?_
        refine lv_iload_n hx hb dX0_allThatFit_76 rfl (lv_at hl 2 rfl) ?_
        refine c_m (k_VW (n := 2) (As := [.ref sa, .int (nI k)]) (rest := [.int (itr (ftS (x.1 0) k r (t, sz, sg)) 0 i)]) F (k_X0_wasSo x2 (hO_x2) (hd_x2) sn sa t sz sg hs (hq_x2) hk3 hn k (by omega)) ⟨rfl, rfl⟩ ⟨Nat.le_of_ble_eq_true rfl, Nat.le_of_ble_eq_true rfl⟩ q893 q895 qs27 q91 q896 (by decide +kernel) hI hK (hw.recv hI hK (cf_main) rfl) rfl hl.1 rfl (Nat.le_of_ble_eq_true rfl) dX0_allThatFit_77 ⟨Nat.le_of_ble_eq_true rfl, Nat.le_of_ble_eq_true rfl⟩) hS (fun H1 locs1 hI hS => ?_)
        obtain ⟨x3, ex3⟩ : ∃ z, z = xs x2 2 (x2.1 0) := ⟨_, rfl⟩
        rw [← ex3] at hI
        refine lv_if_eq (tgt := 90) hx hb dX0_allThatFit_80 (by decide) (fun c_80 => ?_) (fun c_80 => ?_)
        · skip
          refine lv_iconst (v := 0) hx hb dX0_allThatFit_90 (by decide) ?_
          refine lv_ior hx hb dX0_allThatFit_91 ?_
          refine lv_istore (lv' := [(7, .int ((itr (ftS (x.1 0) k r (t, sz, sg)) 0 i) ||| (0 : Int32))), (0, .ref (L 44)), (1, .int (nI sn)), (2, .int (nI k)), (3, .int (nI r)), (4, .int (nI many)), (5, .ref sa), (6, .int (x.1 0 (2 + r) k)), (8, .int (nI i))]) hx hb dX0_allThatFit_92 hl (by decide) rfl (fun ls hl => ?_)
          refine lv_iinc (v := (nI (i + 1))) (lv' := [(8, .int (nI (i + 1))), (7, .int ((itr (ftS (x.1 0) k r (t, sz, sg)) 0 i) ||| (0 : Int32))), (0, .ref (L 44)), (1, .int (nI sn)), (2, .int (nI k)), (3, .int (nI r)), (4, .int (nI many)), (5, .ref sa), (6, .int (x.1 0 (2 + r) k))]) hx hb dX0_allThatFit_94 hl (k := 8) rfl (nI_1 _) (by decide) rfl (fun ls hl => ?_)
          refine lv_goto (tgt := 51) hx hb dX0_allThatFit_97 (by decide) ?_
          exact ih51 (u2 g (2 + r) k (nI i)) (u2 g (2 + r) k (nI i)) (i + 1) (by omega) (fun v => by rw [u2_u2, hg]) (by omega) ((itr (ftS (x.1 0) k r (t, sz, sg)) 0 i) ||| (0 : Int32)) (nI (i + 1)) (by rw [hx1] at c_80; rw [itr_s, ftS]; first | (rw [if_pos c_80]; done) | (rw [if_neg c_80]; rfl)) (rfl) x3 (by rw [ex3, ex2, exc51]; simp only [xs_at, xs_xs]; rw [xs_comm, xs_xs]) _ _ hI hS ls (lv_sub hl [2, 3, 4, 5, 6, 7, 8, 1, 0] rfl)
        · skip
          refine lv_iconst (v := 1) hx hb dX0_allThatFit_83 (by decide) ?_
          refine lv_iload hx hb dX0_allThatFit_84 (lv_at hl 8 rfl) ?_
          refine lv_ishl hx hb dX0_allThatFit_86 ?_
          refine lv_goto (tgt := 91) hx hb dX0_allThatFit_87 (by decide) ?_
          refine lv_ior hx hb dX0_allThatFit_91 ?_
          refine lv_istore (lv' := [(7, .int ((itr (ftS (x.1 0) k r (t, sz, sg)) 0 i) ||| ((1 : Int32) <<< ((nI i) &&& 31)))), (0, .ref (L 44)), (1, .int (nI sn)), (2, .int (nI k)), (3, .int (nI r)), (4, .int (nI many)), (5, .ref sa), (6, .int (x.1 0 (2 + r) k)), (8, .int (nI i))]) hx hb dX0_allThatFit_92 hl (by decide) rfl (fun ls hl => ?_)
          refine lv_iinc (v := (nI (i + 1))) (lv' := [(8, .int (nI (i + 1))), (7, .int ((itr (ftS (x.1 0) k r (t, sz, sg)) 0 i) ||| ((1 : Int32) <<< ((nI i) &&& 31)))), (0, .ref (L 44)), (1, .int (nI sn)), (2, .int (nI k)), (3, .int (nI r)), (4, .int (nI many)), (5, .ref sa), (6, .int (x.1 0 (2 + r) k))]) hx hb dX0_allThatFit_94 hl (k := 8) rfl (nI_1 _) (by decide) rfl (fun ls hl => ?_)
          refine lv_goto (tgt := 51) hx hb dX0_allThatFit_97 (by decide) ?_
          exact ih51 (u2 g (2 + r) k (nI i)) (u2 g (2 + r) k (nI i)) (i + 1) (by omega) (fun v => by rw [u2_u2, hg]) (by omega) ((itr (ftS (x.1 0) k r (t, sz, sg)) 0 i) ||| ((1 : Int32) <<< ((nI i) &&& 31))) (nI (i + 1)) (by rw [hx1] at c_80; rw [itr_s, ftS]; first | (rw [if_pos c_80]; done) | (rw [if_neg c_80]; rfl)) (rfl) x3 (by rw [ex3, ex2, exc51]; simp only [xs_at, xs_xs]; rw [xs_comm, xs_xs]) _ _ hI hS ls (lv_sub hl [2, 3, 4, 5, 6, 7, 8, 1, 0] rfl)
  exact lp51 (_ + 1) (x.1 2) (x.1 0) (0) (Nat.zero_le _) (fun _ => rfl) (Nat.lt_succ_self _) 0 0 (rfl) (rfl) x (by rw [xs_self, xs_self]) _ _ hI hS ls (lv_sub hl [4, 5, 6, 7, 8, 3, 2, 1, 0] rfl)
theorem k_X0_allThatFit_t1 {l : Launch} {D : va_G} {L : Nat → Nat} {A : Nat → Prop} (x : cst) (v kv : Int32) (r many : Nat) (hv : inI v 0 3 = 0) : MetX l yX0_allThatFit (ws_ yX0_allThatFit cX0_allThatFit 9 (some .int)) ({ frames := 3, cells := 0, slots := 0, locals := 64 } : Room) (va_Pc [.ref (L 44), .int v, .int kv, .int (nI r), .int (nI many)] (pI D (cfC D L x) A)) (xQ D (cfC D L (xr x 4 0 (nI 0))) A (.threw (L 45))) A := by
  refine met_X (by decide) rfl (Nat.le_of_ble_eq_true rfl) ?_
  intro p e s m below meth c ls hx hb hr hml hown hts hlocks hl hI hK hout
  have F : CallFix p m c cX0_allThatFit 9 s _ lw_all RX0 := ⟨hx, hb, hml, hown, hts⟩
  have hl : lv_has ls 9 [(0, .ref (L 44)), (1, .int v), (2, .int kv), (3, .int (nI r)), (4, .int (nI many))] := hl
  have hS : va_S A s.heap s.heap [] := va_S.rf
  refine lv_aload_n hx hb dX0_allThatFit_0 rfl (lv_at hl 0 rfl) ?_
  refine lv_iload_n hx hb dX0_allThatFit_1 rfl (lv_at hl 1 rfl) ?_
  exact x_thr (k_X (n := 1) (As := [.int v]) (rest := []) F (k_X0_rowAt_t x v hv) ⟨rfl, rfl⟩ ⟨Nat.le_of_ble_eq_true rfl, Nat.le_of_ble_eq_true rfl⟩ q878 q880 qs24 q91 q881 (by decide +kernel) hI hK (hw.recv hI hK (cf_main) rfl) rfl hl.1 rfl (Nat.le_of_ble_eq_true rfl) dX0_allThatFit_2 ⟨Nat.le_of_ble_eq_true rfl, Nat.le_of_ble_eq_true rfl⟩) hS hlocks hout
theorem k_X0_allThatFit_t2 {l : Launch} {D : va_G} {L : Nat → Nat} {A : Nat → Prop} (x : cst) (sn : Nat) (kv : Int32) (r many : Nat) (hs4 : sn < 4) (hq : x.2.2.2 sn = none) : MetX l yX0_allThatFit (ws_ yX0_allThatFit cX0_allThatFit 9 (some .int)) ({ frames := 3, cells := 0, slots := 0, locals := 63 } : Room) (va_Pc [.ref (L 44), .int (nI sn), .int kv, .int (nI r), .int (nI many)] (pI D (cfC D L x) A)) (xQ D (cfC D L (xr x 4 0 (nI 5))) A (.threw (L 45))) A := by
  refine met_X (by decide) rfl (Nat.le_of_ble_eq_true rfl) ?_
  intro p e s m below meth c ls hx hb hr hml hown hts hlocks hl hI hK hout
  have F : CallFix p m c cX0_allThatFit 9 s _ lw_all RX0 := ⟨hx, hb, hml, hown, hts⟩
  have hl : lv_has ls 9 [(0, .ref (L 44)), (1, .int (nI sn)), (2, .int kv), (3, .int (nI r)), (4, .int (nI many))] := hl
  have hS : va_S A s.heap s.heap [] := va_S.rf
  refine lv_aload_n hx hb dX0_allThatFit_0 rfl (lv_at hl 0 rfl) ?_
  refine lv_iload_n hx hb dX0_allThatFit_1 rfl (lv_at hl 1 rfl) ?_
  refine c_m (k_V (As := [.int (nI sn)]) (rest := []) F (k_X0_rowAt_n x sn (by omega) hq) (cwV 1 hts (lw_V q878 q880 qs24 q91 q881) rfl rfl rfl (by decide +kernel) ⟨Nat.le_of_ble_eq_true rfl, Nat.le_of_ble_eq_true rfl⟩) hI hK (hw.recv hI hK (cf_main) rfl) rfl hl.1 rfl (Nat.le_of_ble_eq_true rfl) dX0_allThatFit_2 ⟨Nat.le_of_ble_eq_true rfl, Nat.le_of_ble_eq_true rfl⟩) hS (fun H1 locs1 hI hS => ?_)
  refine lv_astoreN (lv' := [(5, .null), (0, .ref (L 44)), (1, .int (nI sn)), (2, .int kv), (3, .int (nI r)), (4, .int (nI many))]) hx hb dX0_allThatFit_5 hl (by decide) rfl (fun ls hl => ?_)
  refine lv_aload_n hx hb dX0_allThatFit_7 rfl (lv_at hl 1 rfl) ?_
  refine lv_aloadN hx hb dX0_allThatFit_8 (lv_at hl 0 rfl) ?_
  refine lv_ifnullN (tgt := 17) hx hb dX0_allThatFit_10 (by decide) ?_
  refine lv_iconst (v := 0) hx hb dX0_allThatFit_17 (by decide) ?_
  refine lv_iconst (v := 5) hx hb dX0_allThatFit_18 (by decide) ?_
  exact x_thr (k_X (n := 2) (As := [.int 0, .int 5]) (rest := []) F (k_X0_need_thr x 0 5 (rfl)) ⟨rfl, rfl⟩ ⟨Nat.le_of_ble_eq_true rfl, Nat.le_of_ble_eq_true rfl⟩ q885 q887 qs25 q91 q888 (by decide +kernel) hI hK (hw.recv hI hK (cf_main) rfl) rfl hl.1 rfl (Nat.le_of_ble_eq_true rfl) dX0_allThatFit_19 ⟨Nat.le_of_ble_eq_true rfl, Nat.le_of_ble_eq_true rfl⟩) hS hlocks hout
theorem k_X0_allThatFit_t3 {l : Launch} {D : va_G} {L : Nat → Nat} {A : Nat → Prop} (x : cst) (sn sa t sz : Nat) (sg : Nat → Int32) (hs4 : sn < 4) (hq : x.2.2.2 sn = some (sa, t, sz, sg)) (ht3 : t < 3) (hn40 : sz ≤ 40) (kv : Int32) (r many : Nat) (hg0 : isGlI (x.1 0) kv = 0) : MetX l yX0_allThatFit (ws_ yX0_allThatFit cX0_allThatFit 9 (some .int)) ({ frames := 3, cells := 0, slots := 0, locals := 63 } : Room) (va_Pc [.ref (L 44), .int (nI sn), .int kv, .int (nI r), .int (nI many)] (pI D (cfC D L x) A)) (xQ D (cfC D L (xr x 4 0 (nI 0))) A (.threw (L 45))) A := by
  refine met_X (by decide) rfl (Nat.le_of_ble_eq_true rfl) ?_
  intro p e s m below meth c ls hx hb hr hml hown hts hlocks hl hI hK hout
  have F : CallFix p m c cX0_allThatFit 9 s _ lw_all RX0 := ⟨hx, hb, hml, hown, hts⟩
  have hl : lv_has ls 9 [(0, .ref (L 44)), (1, .int (nI sn)), (2, .int kv), (3, .int (nI r)), (4, .int (nI many))] := hl
  have hS : va_S A s.heap s.heap [] := va_S.rf
  refine lv_aload_n hx hb dX0_allThatFit_0 rfl (lv_at hl 0 rfl) ?_
  refine lv_iload_n hx hb dX0_allThatFit_1 rfl (lv_at hl 1 rfl) ?_
  refine c_m (k_V (As := [.int (nI sn)]) (rest := []) F (k_X0_rowAt_r x sn (by omega) sa t sz sg hq) (cwV 1 hts (lw_V q878 q880 qs24 q91 q881) rfl rfl rfl (by decide +kernel) ⟨Nat.le_of_ble_eq_true rfl, Nat.le_of_ble_eq_true rfl⟩) hI hK (hw.recv hI hK (cf_main) rfl) rfl hl.1 rfl (Nat.le_of_ble_eq_true rfl) dX0_allThatFit_2 ⟨Nat.le_of_ble_eq_true rfl, Nat.le_of_ble_eq_true rfl⟩) hS (fun H1 locs1 hI hS => ?_)
  refine lv_astore (lv' := [(5, .ref sa), (0, .ref (L 44)), (1, .int (nI sn)), (2, .int kv), (3, .int (nI r)), (4, .int (nI many))]) hx hb dX0_allThatFit_5 hl (by decide) rfl (fun ls hl => ?_)
  refine lv_aload_n hx hb dX0_allThatFit_7 rfl (lv_at hl 1 rfl) ?_
  refine lv_aload hx hb dX0_allThatFit_8 (lv_at hl 0 rfl) ?_
  refine lv_ifnull hx hb dX0_allThatFit_10 ?_
  refine lv_iconst (v := 1) hx hb dX0_allThatFit_13 (by decide) ?_
  refine lv_goto (tgt := 18) hx hb dX0_allThatFit_14 (by decide) ?_
  refine lv_iconst (v := 5) hx hb dX0_allThatFit_18 (by decide) ?_
  refine c_m (k_V (As := [.int 1, .int 5]) (rest := []) F (k_X0_need_ok x 1 5 (by decide)) (cwV 2 hts (lw_V q885 q887 qs25 q91 q888) rfl rfl rfl (by decide +kernel) ⟨Nat.le_of_ble_eq_true rfl, Nat.le_of_ble_eq_true rfl⟩) hI hK (hw.recv hI hK (cf_main) rfl) rfl hl.1 rfl (Nat.le_of_ble_eq_true rfl) dX0_allThatFit_19 ⟨Nat.le_of_ble_eq_true rfl, Nat.le_of_ble_eq_true rfl⟩) hS (fun H1 locs1 hI hS => ?_)
  refine lv_aload_n hx hb dX0_allThatFit_22 rfl (lv_at hl 1 rfl) ?_
  refine lv_aload_n hx hb dX0_allThatFit_23 rfl (lv_at hl 1 rfl) ?_
  refine lv_iload_n hx hb dX0_allThatFit_24 rfl (lv_at hl 3 rfl) ?_
  refine c_r (k_V (As := [.int kv]) (rest := [.ref (L 44)]) F (k_X0_isGlove x kv) (cwV 1 hts (lw_V q543 q545 qs5 q91 q546) rfl rfl rfl (by decide +kernel) ⟨Nat.le_of_ble_eq_true rfl, Nat.le_of_ble_eq_true rfl⟩) hI hK (hw.recv hI hK (cf_main) rfl) rfl hl.1 rfl (Nat.le_of_ble_eq_true rfl) dX0_allThatFit_25 ⟨Nat.le_of_ble_eq_true rfl, Nat.le_of_ble_eq_true rfl⟩) ?_
  refine lv_iconst (v := 0) hx hb dX0_allThatFit_28 (by decide) ?_
  exact x_thr (k_X (n := 2) (As := [.int (isGlI (x.1 0) kv), .int 0]) (rest := []) F (k_X0_need_thr x (isGlI (x.1 0) kv) 0 (hg0)) ⟨rfl, rfl⟩ ⟨Nat.le_of_ble_eq_true rfl, Nat.le_of_ble_eq_true rfl⟩ q885 q887 qs25 q91 q888 (by decide +kernel) hI hK (hw.recv hI hK (cf_main) rfl) rfl hl.1 rfl (Nat.le_of_ble_eq_true rfl) dX0_allThatFit_29 ⟨Nat.le_of_ble_eq_true rfl, Nat.le_of_ble_eq_true rfl⟩) hS hlocks hout
set_option maxHeartbeats 1000000 in
theorem k_X0_fits {l : Launch} {D : va_G} {L : Nat → Nat} {A : Nat → Prop} (x : cst) (hO : wOk (x.1 0)) (hd : isN (x.1 0 1 2) 10000) (hsh : shOk2 x) (s0 g : Int32) : Met l yX0_fits (wsW_ yX0_fits cX0_fits 4 (some .int) [((0 : Nat), (9 : Nat), (10 : Nat), (62 : Nat))]) ({ frames := 8, cells := 0, slots := 0, locals := 183 } : Room) (va_Pc [.ref (L 44), .int s0, .int g] (pI D (cfC D L x) A)) (jQ D L (aC x (a_fits 1 6 (shC x) (x.1 0) s0 g)) A (some (.int (aR (a_fits 1 6 (shC x) (x.1 0) s0 g))))) 0 0 A := by
  refine met_W (by decide) rfl (Nat.le_of_ble_eq_true rfl) ?_
  intro p e s m below meth c ls hx hb hr hml hown hts hlocks hl hI hK hhh
  have F : CallFix p m c cX0_fits 4 s _ lw_all RX0 := ⟨hx, hb, hml, hown, hts⟩
  have hl : lv_has ls 4 [(0, .ref (L 44)), (1, .int s0), (2, .int g)] := hl
  have hS : va_S A s.heap s.heap [] := va_S.rf
  obtain ⟨nn, hgn, h8⟩ : ∃ n, x.1 0 1 0 = nI n ∧ n ≤ 8 := ⟨_, hO.n⟩
  refine lv_aload_n hx hb dX0_fits_0 rfl (lv_at hl 0 rfl) ?_
  refine lv_iload_n hx hb dX0_fits_1 rfl (lv_at hl 1 rfl) ?_
  refine lv_iload_n hx hb dX0_fits_2 rfl (lv_at hl 2 rfl) ?_
  refine lv_iconst (v := 1) hx hb dX0_fits_3 (by decide) ?_
  refine lv_bipush (v := 6) hx hb dX0_fits_4 (by decide) ?_
  by_cases r_2 : inI s0 0 3 = 0
  · skip
    obtain ⟨x1, ex1⟩ : ∃ z, z = xr x 4 0 (nI 0) := ⟨_, rfl⟩
    refine x_catch (cf' := cfC D L x1) (by rw [ex1]; exact (k_X (n := 4) (As := [.int s0, .int g, .int 1, .int 6]) (rest := []) F (k_X0_allThatFit_t1 x s0 g 1 6 r_2) ⟨rfl, rfl⟩ ⟨Nat.le_of_ble_eq_true rfl, Nat.le_of_ble_eq_true rfl⟩ q874 q876 qs23 q91 q877 (by decide +kernel) hI hK (hw.recv hI hK (cf_main) rfl) rfl hl.1 rfl (Nat.le_of_ble_eq_true rfl) dX0_fits_6 ⟨Nat.le_of_ble_eq_true rfl, Nat.le_of_ble_eq_true rfl⟩)) hS hown (hts _ q123) hhh (by decide) (by decide) (by decide) hK (ci := 1) rfl rfl (cf_refusal) (fun H1 locs1 hI hS => ?_)
    have hf_2 : x1.2.1 4 0 = nI 0 := by rw [ex1]; exact xr_at _ 4 0 _
    refine lv_astore_n (lv' := [(3, .ref (L 45)), (0, .ref (L 44)), (1, .int s0), (2, .int g)]) hx hb dX0_fits_10 rfl hl (by decide) rfl (fun ls hl => ?_)
    refine lv_aload_n hx hb dX0_fits_11 rfl (lv_at hl 1 rfl) ?_
    refine lv_aload_n hx hb dX0_fits_12 rfl (lv_at hl 0 rfl) ?_
    refine r_getN (C := RX1) (T := TX1) (N := 7) hx hb hts in_X1 hown hK hI (cf_refusal) rfl 6 (by decide) (nf_0 hK) (fun _ h => h) rfl dX0_fits_13 ?_
    rw [hf_2]
    refine c_m (k_V (As := [.int (nI 0)]) (rest := []) F (k_X0_finding x1 0 (by decide)) (cwV 1 hts (lw_V q457 q459 qs2 q91 q460) rfl rfl rfl (by decide +kernel) ⟨Nat.le_of_ble_eq_true rfl, Nat.le_of_ble_eq_true rfl⟩) hI hK (hw.recv hI hK (cf_main) rfl) rfl hl.1 rfl (Nat.le_of_ble_eq_true rfl) dX0_fits_16 ⟨Nat.le_of_ble_eq_true rfl, Nat.le_of_ble_eq_true rfl⟩) hS (fun H1 locs1 hI hS => ?_)
    obtain ⟨x3, ex3⟩ : ∃ z, z = (fnd x1 0) := ⟨_, rfl⟩
    rw [← ex3] at hI
    exact W.iret hx hb hr (fun t ht _ => ⟨rI (by first | (rw [a_fits, shq_0 r_2]; rfl) | (rw [a_fits, shq_n hs (shC_n hq)]; rfl) | (rw [a_fits, shq_s hs (shC_s hq)]; simp only [if_pos hg0]; rfl)), ⟨x3, (by first | (rw [a_fits, shq_0 r_2]; (rw [ex3, ex1]; exact jk_fr _ _ _)) | (rw [a_fits, shq_n hs (shC_n hq)]; (rw [ex3, ex1]; exact jk_fr _ _ _)) | (rw [a_fits, shq_s hs (shC_s hq)]; simp only [if_pos hg0]; (rw [ex3, ex1]; exact jk_fr _ _ _))), by rw [ht]; exact hI⟩, hS.F ht⟩) hS.2.2 dX0_fits_19
  · skip
    obtain ⟨sn, hs, es0⟩ := inI_to (b := 3) rfl (by decide) r_2
    have hs : sn < 4 := by omega
    subst es0
    rcases hq : x.2.2.2 sn with _ | ⟨sa, t, sz, sg⟩
    · skip
      obtain ⟨x4, ex4⟩ : ∃ z, z = xr x 4 0 (nI 5) := ⟨_, rfl⟩
      refine x_catch (cf' := cfC D L x4) (by rw [ex4]; exact (k_X (n := 4) (As := [.int (nI sn), .int g, .int 1, .int 6]) (rest := []) F (k_X0_allThatFit_t2 x sn g 1 6 hs hq) ⟨rfl, rfl⟩ ⟨Nat.le_of_ble_eq_true rfl, Nat.le_of_ble_eq_true rfl⟩ q874 q876 qs23 q91 q877 (by decide +kernel) hI hK (hw.recv hI hK (cf_main) rfl) rfl hl.1 rfl (Nat.le_of_ble_eq_true rfl) dX0_fits_6 ⟨Nat.le_of_ble_eq_true rfl, Nat.le_of_ble_eq_true rfl⟩)) hS hown (hts _ q123) hhh (by decide) (by decide) (by decide) hK (ci := 1) rfl rfl (cf_refusal) (fun H1 locs1 hI hS => ?_)
      have hf_5 : x4.2.1 4 0 = nI 5 := by rw [ex4]; exact xr_at _ 4 0 _
      refine lv_astore_n (lv' := [(3, .ref (L 45)), (0, .ref (L 44)), (1, .int (nI sn)), (2, .int g)]) hx hb dX0_fits_10 rfl hl (by decide) rfl (fun ls hl => ?_)
      refine lv_aload_n hx hb dX0_fits_11 rfl (lv_at hl 1 rfl) ?_
      refine lv_aload_n hx hb dX0_fits_12 rfl (lv_at hl 0 rfl) ?_
      refine r_getN (C := RX1) (T := TX1) (N := 7) hx hb hts in_X1 hown hK hI (cf_refusal) rfl 6 (by decide) (nf_0 hK) (fun _ h => h) rfl dX0_fits_13 ?_
      rw [hf_5]
      refine c_m (k_V (As := [.int (nI 5)]) (rest := []) F (k_X0_finding x4 5 (by decide)) (cwV 1 hts (lw_V q457 q459 qs2 q91 q460) rfl rfl rfl (by decide +kernel) ⟨Nat.le_of_ble_eq_true rfl, Nat.le_of_ble_eq_true rfl⟩) hI hK (hw.recv hI hK (cf_main) rfl) rfl hl.1 rfl (Nat.le_of_ble_eq_true rfl) dX0_fits_16 ⟨Nat.le_of_ble_eq_true rfl, Nat.le_of_ble_eq_true rfl⟩) hS (fun H1 locs1 hI hS => ?_)
      obtain ⟨x6, ex6⟩ : ∃ z, z = (fnd x4 5) := ⟨_, rfl⟩
      rw [← ex6] at hI
      exact W.iret hx hb hr (fun t ht _ => ⟨rI (by first | (rw [a_fits, shq_0 r_2]; rfl) | (rw [a_fits, shq_n hs (shC_n hq)]; rfl) | (rw [a_fits, shq_s hs (shC_s hq)]; simp only [if_pos hg0]; rfl)), ⟨x6, (by first | (rw [a_fits, shq_0 r_2]; (rw [ex6, ex4]; exact jk_fr _ _ _)) | (rw [a_fits, shq_n hs (shC_n hq)]; (rw [ex6, ex4]; exact jk_fr _ _ _)) | (rw [a_fits, shq_s hs (shC_s hq)]; simp only [if_pos hg0]; (rw [ex6, ex4]; exact jk_fr _ _ _))), by rw [ht]; exact hI⟩, hS.F ht⟩) hS.2.2 dX0_fits_19
    · skip
      obtain ⟨hk3, hn, hsg⟩ := hsh sn hs _ _ _ _ hq
      by_cases hg0 : isGlI (x.1 0) g = 0
      · skip
        obtain ⟨x7, ex7⟩ : ∃ z, z = xr x 4 0 (nI 0) := ⟨_, rfl⟩
        refine x_catch (cf' := cfC D L x7) (by rw [ex7]; exact (k_X (n := 4) (As := [.int (nI sn), .int g, .int 1, .int 6]) (rest := []) F (k_X0_allThatFit_t3 x sn sa t sz sg hs hq hk3 hn g 1 6 hg0) ⟨rfl, rfl⟩ ⟨Nat.le_of_ble_eq_true rfl, Nat.le_of_ble_eq_true rfl⟩ q874 q876 qs23 q91 q877 (by decide +kernel) hI hK (hw.recv hI hK (cf_main) rfl) rfl hl.1 rfl (Nat.le_of_ble_eq_true rfl) dX0_fits_6 ⟨Nat.le_of_ble_eq_true rfl, Nat.le_of_ble_eq_true rfl⟩)) hS hown (hts _ q123) hhh (by decide) (by decide) (by decide) hK (ci := 1) rfl rfl (cf_refusal) (fun H1 locs1 hI hS => ?_)
        have hf_8 : x7.2.1 4 0 = nI 0 := by rw [ex7]; exact xr_at _ 4 0 _
        refine lv_astore_n (lv' := [(3, .ref (L 45)), (0, .ref (L 44)), (1, .int (nI sn)), (2, .int g)]) hx hb dX0_fits_10 rfl hl (by decide) rfl (fun ls hl => ?_)
        refine lv_aload_n hx hb dX0_fits_11 rfl (lv_at hl 1 rfl) ?_
        refine lv_aload_n hx hb dX0_fits_12 rfl (lv_at hl 0 rfl) ?_
        refine r_getN (C := RX1) (T := TX1) (N := 7) hx hb hts in_X1 hown hK hI (cf_refusal) rfl 6 (by decide) (nf_0 hK) (fun _ h => h) rfl dX0_fits_13 ?_
        rw [hf_8]
        refine c_m (k_V (As := [.int (nI 0)]) (rest := []) F (k_X0_finding x7 0 (by decide)) (cwV 1 hts (lw_V q457 q459 qs2 q91 q460) rfl rfl rfl (by decide +kernel) ⟨Nat.le_of_ble_eq_true rfl, Nat.le_of_ble_eq_true rfl⟩) hI hK (hw.recv hI hK (cf_main) rfl) rfl hl.1 rfl (Nat.le_of_ble_eq_true rfl) dX0_fits_16 ⟨Nat.le_of_ble_eq_true rfl, Nat.le_of_ble_eq_true rfl⟩) hS (fun H1 locs1 hI hS => ?_)
        obtain ⟨x9, ex9⟩ : ∃ z, z = (fnd x7 0) := ⟨_, rfl⟩
        rw [← ex9] at hI
        exact W.iret hx hb hr (fun t ht _ => ⟨rI (by first | (rw [a_fits, shq_0 r_2]; rfl) | (rw [a_fits, shq_n hs (shC_n hq)]; rfl) | (rw [a_fits, shq_s hs (shC_s hq)]; simp only [if_pos hg0]; rfl)), ⟨x9, (by first | (rw [a_fits, shq_0 r_2]; (rw [ex9, ex7]; exact jk_fr _ _ _)) | (rw [a_fits, shq_n hs (shC_n hq)]; (rw [ex9, ex7]; exact jk_fr _ _ _)) | (rw [a_fits, shq_s hs (shC_s hq)]; simp only [if_pos hg0]; (rw [ex9, ex7]; exact jk_fr _ _ _))), by rw [ht]; exact hI⟩, hS.F ht⟩) hS.2.2 dX0_fits_19
      · skip
        obtain ⟨k, hk, eg⟩ := isGl_to hgn h8 hg0
        subst eg
        refine c_j (k_V (As := [.int (nI sn), .int (nI k), .int 1, .int 6]) (rest := []) F (k_X0_allThatFit_ok x hO hd sn sa t sz sg hs hq hk3 hn k 1 6 (by omega) hg0 (by omega)) (cwV 4 hts (lw_V q874 q876 qs23 q91 q877) rfl rfl rfl (by decide +kernel) ⟨Nat.le_of_ble_eq_true rfl, Nat.le_of_ble_eq_true rfl⟩) hI hK (hw.recv hI hK (cf_main) rfl) rfl hl.1 rfl (Nat.le_of_ble_eq_true rfl) dX0_fits_6 ⟨Nat.le_of_ble_eq_true rfl, Nat.le_of_ble_eq_true rfl⟩) hS (fun x10 H1 locs1 ex10 hI hS => ?_)
        exact W.iret hx hb hr (fun t ht _ => ⟨rI (by rw [a_fits, shq_s hs (shC_s hq)]; simp only [if_neg hg0]; rw [nI_clamp (by omega)]; rfl), ⟨x10, (by rw [a_fits, shq_s hs (shC_s hq)]; simp only [if_neg hg0, aC, xs_self]; assumption), by rw [ht]; exact hI⟩, hS.F ht⟩) hS.2.2 dX0_fits_9
set_option maxHeartbeats 1000000 in
theorem k_X0_kinds {l : Launch} {D : va_G} {L : Nat → Nat} {A : Nat → Prop} (x : cst) (hO : wOk (x.1 0)) (hd : isN (x.1 0 1 2) 10000) (hsh : shOk2 x) (s0 g : Int32) : Met l yX0_kinds (wsW_ yX0_kinds cX0_kinds 4 (some .int) [((0 : Nat), (9 : Nat), (10 : Nat), (62 : Nat))]) ({ frames := 8, cells := 0, slots := 0, locals := 183 } : Room) (va_Pc [.ref (L 44), .int s0, .int g] (pI D (cfC D L x) A)) (jQ D L (aC x (a_fits 0 7 (shC x) (x.1 0) s0 g)) A (some (.int (aR (a_fits 0 7 (shC x) (x.1 0) s0 g))))) 0 0 A := by
  refine met_W (by decide) rfl (Nat.le_of_ble_eq_true rfl) ?_
  intro p e s m below meth c ls hx hb hr hml hown hts hlocks hl hI hK hhh
  have F : CallFix p m c cX0_kinds 4 s _ lw_all RX0 := ⟨hx, hb, hml, hown, hts⟩
  have hl : lv_has ls 4 [(0, .ref (L 44)), (1, .int s0), (2, .int g)] := hl
  have hS : va_S A s.heap s.heap [] := va_S.rf
  obtain ⟨nn, hgn, h8⟩ : ∃ n, x.1 0 1 0 = nI n ∧ n ≤ 8 := ⟨_, hO.n⟩
  refine lv_aload_n hx hb dX0_kinds_0 rfl (lv_at hl 0 rfl) ?_
  refine lv_iload_n hx hb dX0_kinds_1 rfl (lv_at hl 1 rfl) ?_
  refine lv_iload_n hx hb dX0_kinds_2 rfl (lv_at hl 2 rfl) ?_
  refine lv_iconst (v := 0) hx hb dX0_kinds_3 (by decide) ?_
  refine lv_bipush (v := 7) hx hb dX0_kinds_4 (by decide) ?_
  by_cases r_2 : inI s0 0 3 = 0
  · skip
    obtain ⟨x1, ex1⟩ : ∃ z, z = xr x 4 0 (nI 0) := ⟨_, rfl⟩
    refine x_catch (cf' := cfC D L x1) (by rw [ex1]; exact (k_X (n := 4) (As := [.int s0, .int g, .int 0, .int 7]) (rest := []) F (k_X0_allThatFit_t1 x s0 g 0 7 r_2) ⟨rfl, rfl⟩ ⟨Nat.le_of_ble_eq_true rfl, Nat.le_of_ble_eq_true rfl⟩ q874 q876 qs23 q91 q877 (by decide +kernel) hI hK (hw.recv hI hK (cf_main) rfl) rfl hl.1 rfl (Nat.le_of_ble_eq_true rfl) dX0_kinds_6 ⟨Nat.le_of_ble_eq_true rfl, Nat.le_of_ble_eq_true rfl⟩)) hS hown (hts _ q123) hhh (by decide) (by decide) (by decide) hK (ci := 1) rfl rfl (cf_refusal) (fun H1 locs1 hI hS => ?_)
    have hf_2 : x1.2.1 4 0 = nI 0 := by rw [ex1]; exact xr_at _ 4 0 _
    refine lv_astore_n (lv' := [(3, .ref (L 45)), (0, .ref (L 44)), (1, .int s0), (2, .int g)]) hx hb dX0_kinds_10 rfl hl (by decide) rfl (fun ls hl => ?_)
    refine lv_aload_n hx hb dX0_kinds_11 rfl (lv_at hl 1 rfl) ?_
    refine lv_aload_n hx hb dX0_kinds_12 rfl (lv_at hl 0 rfl) ?_
    refine r_getN (C := RX1) (T := TX1) (N := 7) hx hb hts in_X1 hown hK hI (cf_refusal) rfl 6 (by decide) (nf_0 hK) (fun _ h => h) rfl dX0_kinds_13 ?_
    rw [hf_2]
    refine c_m (k_V (As := [.int (nI 0)]) (rest := []) F (k_X0_finding x1 0 (by decide)) (cwV 1 hts (lw_V q457 q459 qs2 q91 q460) rfl rfl rfl (by decide +kernel) ⟨Nat.le_of_ble_eq_true rfl, Nat.le_of_ble_eq_true rfl⟩) hI hK (hw.recv hI hK (cf_main) rfl) rfl hl.1 rfl (Nat.le_of_ble_eq_true rfl) dX0_kinds_16 ⟨Nat.le_of_ble_eq_true rfl, Nat.le_of_ble_eq_true rfl⟩) hS (fun H1 locs1 hI hS => ?_)
    obtain ⟨x3, ex3⟩ : ∃ z, z = (fnd x1 0) := ⟨_, rfl⟩
    rw [← ex3] at hI
    exact W.iret hx hb hr (fun t ht _ => ⟨rI (by first | (rw [a_fits, shq_0 r_2]; rfl) | (rw [a_fits, shq_n hs (shC_n hq)]; rfl) | (rw [a_fits, shq_s hs (shC_s hq)]; simp only [if_pos hg0]; rfl)), ⟨x3, (by first | (rw [a_fits, shq_0 r_2]; (rw [ex3, ex1]; exact jk_fr _ _ _)) | (rw [a_fits, shq_n hs (shC_n hq)]; (rw [ex3, ex1]; exact jk_fr _ _ _)) | (rw [a_fits, shq_s hs (shC_s hq)]; simp only [if_pos hg0]; (rw [ex3, ex1]; exact jk_fr _ _ _))), by rw [ht]; exact hI⟩, hS.F ht⟩) hS.2.2 dX0_kinds_19
  · skip
    obtain ⟨sn, hs, es0⟩ := inI_to (b := 3) rfl (by decide) r_2
    have hs : sn < 4 := by omega
    subst es0
    rcases hq : x.2.2.2 sn with _ | ⟨sa, t, sz, sg⟩
    · skip
      obtain ⟨x4, ex4⟩ : ∃ z, z = xr x 4 0 (nI 5) := ⟨_, rfl⟩
      refine x_catch (cf' := cfC D L x4) (by rw [ex4]; exact (k_X (n := 4) (As := [.int (nI sn), .int g, .int 0, .int 7]) (rest := []) F (k_X0_allThatFit_t2 x sn g 0 7 hs hq) ⟨rfl, rfl⟩ ⟨Nat.le_of_ble_eq_true rfl, Nat.le_of_ble_eq_true rfl⟩ q874 q876 qs23 q91 q877 (by decide +kernel) hI hK (hw.recv hI hK (cf_main) rfl) rfl hl.1 rfl (Nat.le_of_ble_eq_true rfl) dX0_kinds_6 ⟨Nat.le_of_ble_eq_true rfl, Nat.le_of_ble_eq_true rfl⟩)) hS hown (hts _ q123) hhh (by decide) (by decide) (by decide) hK (ci := 1) rfl rfl (cf_refusal) (fun H1 locs1 hI hS => ?_)
      have hf_5 : x4.2.1 4 0 = nI 5 := by rw [ex4]; exact xr_at _ 4 0 _
      refine lv_astore_n (lv' := [(3, .ref (L 45)), (0, .ref (L 44)), (1, .int (nI sn)), (2, .int g)]) hx hb dX0_kinds_10 rfl hl (by decide) rfl (fun ls hl => ?_)
      refine lv_aload_n hx hb dX0_kinds_11 rfl (lv_at hl 1 rfl) ?_
      refine lv_aload_n hx hb dX0_kinds_12 rfl (lv_at hl 0 rfl) ?_
      refine r_getN (C := RX1) (T := TX1) (N := 7) hx hb hts in_X1 hown hK hI (cf_refusal) rfl 6 (by decide) (nf_0 hK) (fun _ h => h) rfl dX0_kinds_13 ?_
      rw [hf_5]
      refine c_m (k_V (As := [.int (nI 5)]) (rest := []) F (k_X0_finding x4 5 (by decide)) (cwV 1 hts (lw_V q457 q459 qs2 q91 q460) rfl rfl rfl (by decide +kernel) ⟨Nat.le_of_ble_eq_true rfl, Nat.le_of_ble_eq_true rfl⟩) hI hK (hw.recv hI hK (cf_main) rfl) rfl hl.1 rfl (Nat.le_of_ble_eq_true rfl) dX0_kinds_16 ⟨Nat.le_of_ble_eq_true rfl, Nat.le_of_ble_eq_true rfl⟩) hS (fun H1 locs1 hI hS => ?_)
      obtain ⟨x6, ex6⟩ : ∃ z, z = (fnd x4 5) := ⟨_, rfl⟩
      rw [← ex6] at hI
      exact W.iret hx hb hr (fun t ht _ => ⟨rI (by first | (rw [a_fits, shq_0 r_2]; rfl) | (rw [a_fits, shq_n hs (shC_n hq)]; rfl) | (rw [a_fits, shq_s hs (shC_s hq)]; simp only [if_pos hg0]; rfl)), ⟨x6, (by first | (rw [a_fits, shq_0 r_2]; (rw [ex6, ex4]; exact jk_fr _ _ _)) | (rw [a_fits, shq_n hs (shC_n hq)]; (rw [ex6, ex4]; exact jk_fr _ _ _)) | (rw [a_fits, shq_s hs (shC_s hq)]; simp only [if_pos hg0]; (rw [ex6, ex4]; exact jk_fr _ _ _))), by rw [ht]; exact hI⟩, hS.F ht⟩) hS.2.2 dX0_kinds_19
    · skip
      obtain ⟨hk3, hn, hsg⟩ := hsh sn hs _ _ _ _ hq
      by_cases hg0 : isGlI (x.1 0) g = 0
      · skip
        obtain ⟨x7, ex7⟩ : ∃ z, z = xr x 4 0 (nI 0) := ⟨_, rfl⟩
        refine x_catch (cf' := cfC D L x7) (by rw [ex7]; exact (k_X (n := 4) (As := [.int (nI sn), .int g, .int 0, .int 7]) (rest := []) F (k_X0_allThatFit_t3 x sn sa t sz sg hs hq hk3 hn g 0 7 hg0) ⟨rfl, rfl⟩ ⟨Nat.le_of_ble_eq_true rfl, Nat.le_of_ble_eq_true rfl⟩ q874 q876 qs23 q91 q877 (by decide +kernel) hI hK (hw.recv hI hK (cf_main) rfl) rfl hl.1 rfl (Nat.le_of_ble_eq_true rfl) dX0_kinds_6 ⟨Nat.le_of_ble_eq_true rfl, Nat.le_of_ble_eq_true rfl⟩)) hS hown (hts _ q123) hhh (by decide) (by decide) (by decide) hK (ci := 1) rfl rfl (cf_refusal) (fun H1 locs1 hI hS => ?_)
        have hf_8 : x7.2.1 4 0 = nI 0 := by rw [ex7]; exact xr_at _ 4 0 _
        refine lv_astore_n (lv' := [(3, .ref (L 45)), (0, .ref (L 44)), (1, .int (nI sn)), (2, .int g)]) hx hb dX0_kinds_10 rfl hl (by decide) rfl (fun ls hl => ?_)
        refine lv_aload_n hx hb dX0_kinds_11 rfl (lv_at hl 1 rfl) ?_
        refine lv_aload_n hx hb dX0_kinds_12 rfl (lv_at hl 0 rfl) ?_
        refine r_getN (C := RX1) (T := TX1) (N := 7) hx hb hts in_X1 hown hK hI (cf_refusal) rfl 6 (by decide) (nf_0 hK) (fun _ h => h) rfl dX0_kinds_13 ?_
        rw [hf_8]
        refine c_m (k_V (As := [.int (nI 0)]) (rest := []) F (k_X0_finding x7 0 (by decide)) (cwV 1 hts (lw_V q457 q459 qs2 q91 q460) rfl rfl rfl (by decide +kernel) ⟨Nat.le_of_ble_eq_true rfl, Nat.le_of_ble_eq_true rfl⟩) hI hK (hw.recv hI hK (cf_main) rfl) rfl hl.1 rfl (Nat.le_of_ble_eq_true rfl) dX0_kinds_16 ⟨Nat.le_of_ble_eq_true rfl, Nat.le_of_ble_eq_true rfl⟩) hS (fun H1 locs1 hI hS => ?_)
        obtain ⟨x9, ex9⟩ : ∃ z, z = (fnd x7 0) := ⟨_, rfl⟩
        rw [← ex9] at hI
        exact W.iret hx hb hr (fun t ht _ => ⟨rI (by first | (rw [a_fits, shq_0 r_2]; rfl) | (rw [a_fits, shq_n hs (shC_n hq)]; rfl) | (rw [a_fits, shq_s hs (shC_s hq)]; simp only [if_pos hg0]; rfl)), ⟨x9, (by first | (rw [a_fits, shq_0 r_2]; (rw [ex9, ex7]; exact jk_fr _ _ _)) | (rw [a_fits, shq_n hs (shC_n hq)]; (rw [ex9, ex7]; exact jk_fr _ _ _)) | (rw [a_fits, shq_s hs (shC_s hq)]; simp only [if_pos hg0]; (rw [ex9, ex7]; exact jk_fr _ _ _))), by rw [ht]; exact hI⟩, hS.F ht⟩) hS.2.2 dX0_kinds_19
      · skip
        obtain ⟨k, hk, eg⟩ := isGl_to hgn h8 hg0
        subst eg
        refine c_j (k_V (As := [.int (nI sn), .int (nI k), .int 0, .int 7]) (rest := []) F (k_X0_allThatFit_ok x hO hd sn sa t sz sg hs hq hk3 hn k 0 7 (by omega) hg0 (by omega)) (cwV 4 hts (lw_V q874 q876 qs23 q91 q877) rfl rfl rfl (by decide +kernel) ⟨Nat.le_of_ble_eq_true rfl, Nat.le_of_ble_eq_true rfl⟩) hI hK (hw.recv hI hK (cf_main) rfl) rfl hl.1 rfl (Nat.le_of_ble_eq_true rfl) dX0_kinds_6 ⟨Nat.le_of_ble_eq_true rfl, Nat.le_of_ble_eq_true rfl⟩) hS (fun x10 H1 locs1 ex10 hI hS => ?_)
        exact W.iret hx hb hr (fun t ht _ => ⟨rI (by rw [a_fits, shq_s hs (shC_s hq)]; simp only [if_neg hg0]; rw [nI_clamp (by omega)]; rfl), ⟨x10, (by rw [a_fits, shq_s hs (shC_s hq)]; simp only [if_neg hg0, aC, xs_self]; assumption), by rw [ht]; exact hI⟩, hS.F ht⟩) hS.2.2 dX0_kinds_9
