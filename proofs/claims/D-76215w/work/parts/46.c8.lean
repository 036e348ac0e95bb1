/-! odds, what is held, the tape -/
def aCL (x : cst) : actL → cst
  | .inl k => fnd x k
  | .inr _ => x
def aML (x : mst) : actL → mst
  | .inl k => fndM x k
  | .inr _ => x
theorem dv_ne {p : Nat} (h : p < 17) : dvI p 16 ≠ 0 := by
  have : ∀ p, p < 17 → dvI p 16 ≠ 0 := by decide +kernel
  exact this p h
theorem od_a {p : Nat} {w : Int32} (h : w = 0) (hp : p < 17 := by omega) : nI p / dvI p 16 = nI (odN p w) := by
  have : ∀ p, p < 17 → nI p / dvI p 16 = nI (p / Nat.gcd p 16) := by decide +kernel
  rw [this p hp, odN, if_pos h]
theorem od_b {p : Nat} {w : Int32} (h : ¬ w = 0) (hp : p < 17 := by omega) : 16 / dvI p 16 = nI (odN p w) := by
  have : ∀ p, p < 17 → 16 / dvI p 16 = nI (16 / Nat.gcd p 16) := by decide +kernel
  rw [this p hp, odN, if_neg h]
theorem od_m {p u : Nat} (hp : p < 17) (hu : u ≤ 4) (hd : p % 2 ^ u = 0) (h : p / 2 ^ u % 2 = 1 ∨ 16 / 2 ^ u ≤ 1) : (∀ {w : Int32}, w = 0 → p / 2 ^ u = odN p w) ∧ (∀ {w : Int32}, ¬ w = 0 → 16 / 2 ^ u = odN p w) := by
  have key : ∀ p, p < 17 → ∀ u, u < 5 → p % 2 ^ u = 0 → (p / 2 ^ u % 2 = 1 ∨ 16 / 2 ^ u ≤ 1) → p / 2 ^ u = p / Nat.gcd p 16 ∧ 16 / 2 ^ u = 16 / Nat.gcd p 16 := by decide +kernel
  obtain ⟨h1, h2⟩ := key p hp u (by omega) hd h
  exact ⟨fun hw => by rw [odN, if_pos hw]; exact h1, fun hw => by rw [odN, if_neg hw]; exact h2⟩
theorem od_u {u : Nat} (h : ¬ 16 / 2 ^ u ≤ 1) (hu : u ≤ 4) : u + 1 ≤ 4 := by
  have : u ≠ 4 := fun q => by subst q; exact h (by decide)
  omega
theorem od_d {p u : Nat} (h : p % 2 ^ u = 0) (h2 : p / 2 ^ u % 2 = 0) : p % 2 ^ (u + 1) = 0 := by
  rw [Nat.pow_succ, Nat.mod_mul, h, h2, Nat.mul_zero]
def fdX (x : cst) (b : Int32) (t n i : Nat) : cst := (x.1, u2 (ur x.2.1 2 (fdT b t n i (x.2.1 2))) 0 0 (nI (t + i)), x.2.2)
def fdY (x : mst) (b : Int32) (t n i : Nat) : mst := (x.1, u2 (ur x.2.1 2 (fdT b t n i (x.2.1 2))) 0 1 (nI (t + i)), x.2.2)
theorem fdX_t (x : cst) (b : Int32) (t n i : Nat) : (fdX x b t n i).2.1 0 0 = nI (t + i) := by
  show u2 (ur x.2.1 2 (fdT b t n i (x.2.1 2))) 0 0 (nI (t + i)) 0 0 = _
  rw [u2_at, if_pos ⟨rfl, rfl⟩]
theorem fdY_t (x : mst) (b : Int32) (t n i : Nat) : (fdY x b t n i).2.1 0 1 = nI (t + i) := by
  show u2 (ur x.2.1 2 (fdT b t n i (x.2.1 2))) 0 1 (nI (t + i)) 0 1 = _
  rw [u2_at, if_pos ⟨rfl, rfl⟩]
theorem ur_self (f : wd) (r : Nat) : ur f r (f r) = f := by
  funext q
  unfold ur
  by_cases h : q = r
  · rw [if_pos h, h]
  · rw [if_neg h]
theorem fdX_0 {x : cst} {b : Int32} {t n : Nat} (et : x.2.1 0 0 = nI t) : fdX x b t n 0 = x := by
  refine Prod.ext rfl (Prod.ext ?_ rfl)
  show u2 (ur x.2.1 2 (x.2.1 2)) 0 0 (nI (t + 0)) = x.2.1
  rw [ur_self, Nat.add_zero, ← et, u2_self]
theorem fdY_0 {x : mst} {b : Int32} {t n : Nat} (et : x.2.1 0 1 = nI t) : fdY x b t n 0 = x := by
  refine Prod.ext rfl (Prod.ext ?_ rfl)
  show u2 (ur x.2.1 2 (x.2.1 2)) 0 1 (nI (t + 0)) = x.2.1
  rw [ur_self, Nat.add_zero, ← et, u2_self]
theorem fd_row (g : wd) (b : Int32) (t k i c : Nat) (v w : Int32) : u2 (u2 (u2 (ur g 2 (fdT b t k i (g 2))) 0 c v) 2 (t + i) (byt b (k - 1 - i))) 0 c w = u2 (ur g 2 (fdT b t k (i + 1) (g 2))) 0 c w := by
  funext r q
  simp only [u2_at]
  unfold ur
  by_cases h2 : r = 2
  · subst h2
    simp only [fdT, itr_s, fdS, upd]
    simp
    rfl
  · simp [h2]
    by_cases h0 : r = 0 ∧ q = c
    · simp [h0]
    · simp [h0]
theorem fdX_s {x : cst} {b : Int32} {t k j : Nat} (h : 0 < j ∧ j ≤ k) (hq : nI j - 1 = nI (j - 1)) : xr (xr (fdX x b t k (k - j)) 2 (t + (k - j)) (b >>> ((8 * (nI j - 1)) &&& 31)).toInt8.toInt32) 0 0 ((xr (fdX x b t k (k - j)) 2 (t + (k - j)) (b >>> ((8 * (nI j - 1)) &&& 31)).toInt8.toInt32).2.1 0 0 + 1) = fdX x b t k (k - j + 1) := by
  have e0 : (xr (fdX x b t k (k - j)) 2 (t + (k - j)) (b >>> ((8 * (nI j - 1)) &&& 31)).toInt8.toInt32).2.1 0 0 = nI (t + (k - j)) := by
    show u2 (fdX x b t k (k - j)).2.1 2 (t + (k - j)) (b >>> ((8 * (nI j - 1)) &&& 31)).toInt8.toInt32 0 0 = _
    rw [u2_ne (by decide)]; exact fdX_t _ _ _ _ _
  rw [e0, nI_1, hq]
  refine Prod.ext rfl (Prod.ext ?_ rfl)
  have h1 : k - 1 - (k - j) = j - 1 := by omega
  have := fd_row x.2.1 b t k (k - j) 0 (nI (t + (k - j))) (nI (t + (k - j) + 1))
  rw [h1] at this
  exact this
theorem fdY_s {x : mst} {b : Int32} {t k j : Nat} (h : 0 < j ∧ j ≤ k) (hq : nI j - 1 = nI (j - 1)) : yr (yr (fdY x b t k (k - j)) 2 (t + (k - j)) (b >>> ((8 * (nI j - 1)) &&& 31)).toInt8.toInt32) 0 1 ((yr (fdY x b t k (k - j)) 2 (t + (k - j)) (b >>> ((8 * (nI j - 1)) &&& 31)).toInt8.toInt32).2.1 0 1 + 1) = fdY x b t k (k - j + 1) := by
  have e0 : (yr (fdY x b t k (k - j)) 2 (t + (k - j)) (b >>> ((8 * (nI j - 1)) &&& 31)).toInt8.toInt32).2.1 0 1 = nI (t + (k - j)) := by
    show u2 (fdY x b t k (k - j)).2.1 2 (t + (k - j)) (b >>> ((8 * (nI j - 1)) &&& 31)).toInt8.toInt32 0 1 = _
    rw [u2_ne (by decide)]; exact fdY_t _ _ _ _ _
  rw [e0, nI_1, hq]
  refine Prod.ext rfl (Prod.ext ?_ rfl)
  have h1 : k - 1 - (k - j) = j - 1 := by omega
  have := fd_row x.2.1 b t k (k - j) 1 (nI (t + (k - j))) (nI (t + (k - j) + 1))
  rw [h1] at this
  exact this
def aCF (x : cst) (b : Int32) (t : Nat) (n : Int32) : Nat ⊕ Nat → cst
  | .inl k => fnd x k
  | .inr _ => fdX x b t n.toNatClampNeg n.toNatClampNeg
def aMF (x : mst) (b : Int32) (t : Nat) (n : Int32) : Nat ⊕ Nat → mst
  | .inl k => fndM x k
  | .inr _ => fdY x b t n.toNatClampNeg n.toNatClampNeg
theorem fdX_e {x : cst} {b : Int32} {t k c : Nat} (hk : k < 2 ^ 31 := by omega) : fdX x b t k (k - 0) = aCF x b t (nI k) (.inr c) := by
  show _ = fdX x b t (nI k).toNatClampNeg (nI k).toNatClampNeg
  rw [nI_clamp hk, Nat.sub_zero]
theorem fdY_e {x : mst} {b : Int32} {t k c : Nat} (hk : k < 2 ^ 31 := by omega) : fdY x b t k (k - 0) = aMF x b t (nI k) (.inr c) := by
  show _ = fdY x b t (nI k).toNatClampNeg (nI k).toNatClampNeg
  rw [nI_clamp hk, Nat.sub_zero]
theorem k_X0_odds {l : Launch} {D : va_G} {L : Nat → Nat} {A : Nat → Prop} (x : cst) (hO : wOk (x.1 0)) (g n w : Int32) : Met l yX0_odds (ws_ yX0_odds cX0_odds 10 (some .long)) ({ frames := 2, cells := 0, slots := 0, locals := 43 } : Room) (va_Pc [.ref (L 44), .int g, .int n, .int w] (pI D (cfC D L x) A)) (nQ D (cfC D L (aCL x (a_odds (x.1 0) g n w))) A (some (.long (aL (a_odds (x.1 0) g n w))))) 0 0 A := by
  refine met_I (by decide) rfl (Nat.le_of_ble_eq_true rfl) ?_
  intro p e s m below meth c ls hx hb hr hml hown hts hlocks hl hI hK
  have F : CallFix p m c cX0_odds 10 s _ lw_all RX0 := ⟨hx, hb, hml, hown, hts⟩
  have hl : lv_has ls 10 [(0, .ref (L 44)), (1, .int g), (2, .int n), (3, .int w)] := hl
  have hS : va_S A s.heap s.heap [] := va_S.rf
  obtain ⟨nn, hn, h8⟩ : ∃ n, x.1 0 1 0 = nI n ∧ n ≤ 8 := ⟨_, hO.n⟩
  have hN : wN (x.1 0) = nn := by unfold wN; rw [hn, nI_clamp (by omega)]
  refine lv_aload_n hx hb dX0_odds_0 rfl (lv_at hl 0 rfl) ?_
  refine lv_iload_n hx hb dX0_odds_1 rfl (lv_at hl 1 rfl) ?_
  refine c_r (k_V (As := [.int g]) (rest := []) F (k_X0_isGlove x g) (cwV 1 hts (lw_V q543 q545 qs5 q91 q546) rfl rfl rfl (by decide +kernel) ⟨Nat.le_of_ble_eq_true rfl, Nat.le_of_ble_eq_true rfl⟩) hI hK (hw.recv hI hK (cf_main) rfl) rfl hl.1 rfl (Nat.le_of_ble_eq_true rfl) dX0_odds_2 ⟨Nat.le_of_ble_eq_true rfl, Nat.le_of_ble_eq_true rfl⟩) ?_
  refine lv_if_eq (tgt := 27) hx hb dX0_odds_5 (by decide) (fun c_5 => ?_) (fun c_5 => ?_)
  · skip
    refine lv_aload_n hx hb dX0_odds_27 rfl (lv_at hl 0 rfl) ?_
    refine lv_iconst (v := 0) hx hb dX0_odds_28 (by decide) ?_
    refine c_m (k_V (As := [.int 0]) (rest := []) F (k_X0_finding x 0 (by decide)) (cwV 1 hts (lw_V q457 q459 qs2 q91 q460) rfl rfl rfl (by decide +kernel) ⟨Nat.le_of_ble_eq_true rfl, Nat.le_of_ble_eq_true rfl⟩) hI hK (hw.recv hI hK (cf_main) rfl) rfl hl.1 rfl (Nat.le_of_ble_eq_true rfl) dX0_odds_29 ⟨Nat.le_of_ble_eq_true rfl, Nat.le_of_ble_eq_true rfl⟩) hS (fun H1 locs1 hI hS => ?_)
    obtain ⟨x1, ex1⟩ : ∃ z, z = (fnd x 0) := ⟨_, rfl⟩
    rw [← ex1] at hI
    refine lv_i2l (v := ((-1000001 - nI 0) : Int32).toInt64) hx hb dX0_odds_32 rfl ?_
    exact W.lret hx hb hr (fun t ht _ => ⟨rL (by simp [a_odds, aL, c_5]), by rw [ht]; exact hw_eq hI (congrArg (cfC D L) (by rw [ex1]; simp [a_odds, aCL, c_5])), hS.F ht⟩) hS.2.2 dX0_odds_33
  · skip
    refine lv_iload_n hx hb dX0_odds_8 rfl (lv_at hl 2 rfl) ?_
    refine lv_iconst (v := 0) hx hb dX0_odds_9 (by decide) ?_
    refine lv_bipush (v := 15) hx hb dX0_odds_10 (by decide) ?_
    refine c_r (k_S (As := [.int n, .int 0, .int 15]) (rest := []) F (k_X0_in n 0 15) (va_cwS 3 hts (lw_S q439 q440 q91 q441) rfl rfl rfl (by decide +kernel) ⟨Nat.le_of_ble_eq_true rfl, Nat.le_of_ble_eq_true rfl⟩) rfl hl.1 rfl (Nat.le_of_ble_eq_true rfl) dX0_odds_12 ⟨Nat.le_of_ble_eq_true rfl, Nat.le_of_ble_eq_true rfl⟩) ?_
    refine lv_if_eq (tgt := 27) hx hb dX0_odds_15 (by decide) (fun c_15 => ?_) (fun c_15 => ?_)
    · skip
      refine lv_aload_n hx hb dX0_odds_27 rfl (lv_at hl 0 rfl) ?_
      refine lv_iconst (v := 0) hx hb dX0_odds_28 (by decide) ?_
      refine c_m (k_V (As := [.int 0]) (rest := []) F (k_X0_finding x 0 (by decide)) (cwV 1 hts (lw_V q457 q459 qs2 q91 q460) rfl rfl rfl (by decide +kernel) ⟨Nat.le_of_ble_eq_true rfl, Nat.le_of_ble_eq_true rfl⟩) hI hK (hw.recv hI hK (cf_main) rfl) rfl hl.1 rfl (Nat.le_of_ble_eq_true rfl) dX0_odds_29 ⟨Nat.le_of_ble_eq_true rfl, Nat.le_of_ble_eq_true rfl⟩) hS (fun H1 locs1 hI hS => ?_)
      obtain ⟨x2, ex2⟩ : ∃ z, z = (fnd x 0) := ⟨_, rfl⟩
      rw [← ex2] at hI
      refine lv_i2l (v := ((-1000001 - nI 0) : Int32).toInt64) hx hb dX0_odds_32 rfl ?_
      exact W.lret hx hb hr (fun t ht _ => ⟨rL (by simp [a_odds, aL, c_5, c_15]), by rw [ht]; exact hw_eq hI (congrArg (cfC D L) (by rw [ex2]; simp [a_odds, aCL, c_5, c_15])), hS.F ht⟩) hS.2.2 dX0_odds_33
    · skip
      refine lv_iload_n hx hb dX0_odds_18 rfl (lv_at hl 3 rfl) ?_
      refine lv_iconst (v := 0) hx hb dX0_odds_19 (by decide) ?_
      refine lv_iconst (v := 1) hx hb dX0_odds_20 (by decide) ?_
      refine c_r (k_S (As := [.int w, .int 0, .int 1]) (rest := []) F (k_X0_in w 0 1) (va_cwS 3 hts (lw_S q439 q440 q91 q441) rfl rfl rfl (by decide +kernel) ⟨Nat.le_of_ble_eq_true rfl, Nat.le_of_ble_eq_true rfl⟩) rfl hl.1 rfl (Nat.le_of_ble_eq_true rfl) dX0_odds_21 ⟨Nat.le_of_ble_eq_true rfl, Nat.le_of_ble_eq_true rfl⟩) ?_
      refine lv_if_ne (tgt := 34) hx hb dX0_odds_24 (by decide) (fun c_24 => ?_) (fun c_24 => ?_)
      · skip
        obtain ⟨k, hk, eg⟩ := isGl_to hn h8 c_5
        have eg2 : g.toNatClampNeg = k := by rw [eg, nI_clamp (by omega)]
        obtain ⟨j, hj, en⟩ := inI_to (b := 15) rfl (by decide) c_15
        have en2 : n.toNatClampNeg = j := by rw [en, nI_clamp (by omega)]
        obtain ⟨pp, hpp, hp⟩ := bc_16 (hO.2.1 k (by omega)).2.2.2.2.2.1
        have hA : a_odds (x.1 0) g n w = .inr (powL (odN pp w) j) := by simp only [a_odds, if_neg c_5, if_neg c_15, if_neg c_24, eg2, en2, hp, nI_clamp (show pp < 2 ^ 31 by omega)]
        subst eg
        subst en
        refine lv_aload_n hx hb dX0_odds_34 rfl (lv_at hl 0 rfl) ?_
        refine r_get (C := RX0) (T := TX0) (N := 11) hx hb hts in_X0 hown hK hI (cf_main) rfl 3 (by decide) (hts _ q401) (fun _ h => h) rfl dX0_odds_35 ?_
        refine r_getN (C := RX4) (T := TX4) (N := 7) hx hb hts in_X4 hown hK hI (cf_W (w := 0) (by decide)) rfl 2 (by decide) (nf_7 hK) (fun _ h => h) rfl dX0_odds_38 ?_
        refine lv_iconst (v := 5) hx hb dX0_odds_41 (by decide) ?_
        refine n_aaldI (f := fun r => L (11 * 0 + 3 + r)) (k := 5) hx hb hK hI (cf_glove (w := 0) (by decide)) (rfl) (by decide) (by decide) dX0_odds_42 ?_
        refine lv_iload_n hx hb dX0_odds_43 rfl (lv_at hl 1 rfl) ?_
        refine n_iald (k := k) hx hb hK hI (cf_row (w := 0) (r := 5) (by decide) (by decide)) (rfl) (by omega) (by decide) dX0_odds_44 ?_
        refine c_r (k_S (As := [.int (x.1 0 (2 + 5) k)]) (rest := []) F (k_X0_ones (x.1 0 (2 + 5) k)) (va_cwS 1 hts (lw_S q809 q734 q91 q735) rfl rfl rfl (by decide +kernel) ⟨Nat.le_of_ble_eq_true rfl, Nat.le_of_ble_eq_true rfl⟩) rfl hl.1 rfl (Nat.le_of_ble_eq_true rfl) dX0_odds_45 ⟨Nat.le_of_ble_eq_true rfl, Nat.le_of_ble_eq_true rfl⟩) ?_
        rw [hp]
        refine lv_istore (lv' := [(4, .int (nI pp)), (0, .ref (L 44)), (1, .int (nI k)), (2, .int (nI j)), (3, .int w)]) hx hb dX0_odds_48 hl (by decide) rfl (fun ls hl => ?_)
        refine lv_iload hx hb dX0_odds_50 (lv_at hl 0 rfl) ?_
        refine lv_bipush (v := 16) hx hb dX0_odds_52 (by decide) ?_
        refine c_r (k_S (As := [.int (nI pp), .int 16]) (rest := []) F (k_X0_divisor pp 16 (by omega) (by omega)) (va_cwS 2 hts (lw_S q928 q929 q91 q930) rfl rfl rfl (by decide +kernel) ⟨Nat.le_of_ble_eq_true rfl, Nat.le_of_ble_eq_true rfl⟩) rfl hl.1 rfl (Nat.le_of_ble_eq_true rfl) dX0_odds_54 ⟨Nat.le_of_ble_eq_true rfl, Nat.le_of_ble_eq_true rfl⟩) ?_
        refine lv_istore (lv' := [(5, .int (dvI pp 16)), (4, .int (nI pp)), (0, .ref (L 44)), (1, .int (nI k)), (2, .int (nI j)), (3, .int w)]) hx hb dX0_odds_57 hl (by decide) rfl (fun ls hl => ?_)
        refine lv_iload_n hx hb dX0_odds_59 rfl (lv_at hl 5 rfl) ?_
        refine lv_if_ne (tgt := 68) hx hb dX0_odds_60 (by decide) (fun c_60 => ?_) (fun c_60 => ?_)
        · skip
          refine lv_bipush (v := 16) hx hb dX0_odds_68 (by decide) ?_
          refine lv_iload hx hb dX0_odds_70 (lv_at hl 0 rfl) ?_
          refine lv_idiv hx hb dX0_odds_72 (dv_ne hpp) ?_
          first | rw [od_a c_60] | rw [od_b c_60]
          refine lv_istore (lv' := [(6, .int (nI (odN pp w))), (5, .int (dvI pp 16)), (4, .int (nI pp)), (0, .ref (L 44)), (1, .int (nI k)), (2, .int (nI j)), (3, .int w)]) hx hb dX0_odds_73 hl (by decide) rfl (fun ls hl => ?_)
          refine lv_lconst (v := 1) hx hb dX0_odds_75 (by decide) ?_
          refine lv_lstore (lv' := [(7, .long 1), (6, .int (nI (odN pp w))), (5, .int (dvI pp 16)), (4, .int (nI pp)), (0, .ref (L 44)), (1, .int (nI k)), (2, .int (nI j)), (3, .int w)]) hx hb dX0_odds_76 hl (by decide) rfl (fun ls hl => ?_)
          refine lv_iconst (v := 0) hx hb dX0_odds_78 (by decide) ?_
          refine lv_istore (lv' := [(9, .int 0), (7, .long 1), (6, .int (nI (odN pp w))), (5, .int (dvI pp 16)), (4, .int (nI pp)), (0, .ref (L 44)), (1, .int (nI k)), (2, .int (nI j)), (3, .int w)]) hx hb dX0_odds_79 hl (by decide) rfl (fun ls hl => ?_)
          have lp81 : ∀ (fuel : Nat) (i : Nat), (i ≤ j) → j - i < fuel → ∀ (v7 : Int64) (v9 : Int32), v7 = powL (odN pp w) i → v9 = nI i → ∀ (xc81 : cst), xc81 = x → ∀ (H : Heap) (locs : List Loc), hw D (cfC D L xc81) A H → va_S A s.heap H locs → ∀ (ls : Array Slot), lv_has ls 10 [(0, .ref (L 44)), (1, .int (nI k)), (2, .int (nI j)), (3, .int w), (4, .int (nI pp)), (5, .int (dvI pp 16)), (6, .int (nI (odN pp w))), (7, .long v7), (9, .int v9)] → W p l e ({ frames := 2, cells := 0, slots := 0, locals := 43 } : Room) s m ([.ref (L 44), .int (nI k), .int (nI j), .int w] : List Value).toArray below meth c H locs 0 0 (MQ below (nQ D (cfC D L (aCL x (a_odds (x.1 0) (nI k) (nI j) w))) A (some (.long (aL (a_odds (x.1 0) (nI k) (nI j) w))))) ([.ref (L 44), .int (nI k), .int (nI j), .int w] : List Value).toArray s 0 0 A) (F0 m 81 ls []) := by
            intro fuel
            induction fuel with
            | zero => intro i hi hf; exact absurd hf (Nat.not_lt_zero _)
            | succ fuel ih81 =>
              intro i hi hf81 v7 v9 e7 e9  xc81 exc81 H locs hI hS ls hl
              subst e7 e9
              refine lv_iload hx hb dX0_odds_81 (lv_at hl 8 rfl) ?_
              refine lv_iload_n hx hb dX0_odds_83 rfl (lv_at hl 2 rfl) ?_
              refine lv_icmp_ge (tgt := 101) hx hb dX0_odds_84 (by decide) (fun c_84 => ?_) (fun c_84 => ?_)
              · skip
                have c_84 : j ≤ i := (nle (a := j) (b := i) (rfl) (rfl) (by omega) (by omega)).mp c_84
                refine lv_lload hx hb dX0_odds_101 (lv_at hl 7 rfl) ?_
                exact W.lret hx hb hr (fun t ht _ => ⟨rL (by rw [hA, aL, show i = j by omega]), by rw [ht]; exact hw_eq hI (congrArg (cfC D L) (by rw [hA, exc81]; rfl)), hS.F ht⟩) hS.2.2 dX0_odds_103
              · skip
                have c_84 : ¬ j ≤ i := fun z => c_84 ((nle (a := j) (b := i) (rfl) (rfl) (by omega) (by omega)).mpr z)
                refine lv_lload hx hb dX0_odds_87 (lv_at hl 7 rfl) ?_
                refine lv_iload hx hb dX0_odds_89 (lv_at hl 6 rfl) ?_
                refine lv_i2l (v := (nI (odN pp w) : Int32).toInt64) hx hb dX0_odds_91 rfl ?_
                refine lv_lmul hx hb dX0_odds_92 ?_
                refine lv_lstore (lv' := [(7, .long ((powL (odN pp w) i) * ((nI (odN pp w) : Int32).toInt64))), (0, .ref (L 44)), (1, .int (nI k)), (2, .int (nI j)), (3, .int w), (4, .int (nI pp)), (5, .int (dvI pp 16)), (6, .int (nI (odN pp w))), (9, .int (nI i))]) hx hb dX0_odds_93 hl (by decide) rfl (fun ls hl => ?_)
                refine lv_iinc (v := (nI (i + 1))) (lv' := [(9, .int (nI (i + 1))), (7, .long ((powL (odN pp w) i) * ((nI (odN pp w) : Int32).toInt64))), (0, .ref (L 44)), (1, .int (nI k)), (2, .int (nI j)), (3, .int w), (4, .int (nI pp)), (5, .int (dvI pp 16)), (6, .int (nI (odN pp w)))]) hx hb dX0_odds_95 hl (k := 8) rfl (nI_1 _) (by decide) rfl (fun ls hl => ?_)
                refine lv_goto (tgt := 81) hx hb dX0_odds_98 (by decide) ?_
                exact ih81 (i + 1) (by omega) (by omega) ((powL (odN pp w) i) * ((nI (odN pp w) : Int32).toInt64)) (nI (i + 1)) (by rw [powL, powL, itr_s]) (rfl) xc81 (exc81) _ _ hI hS ls (lv_sub hl [2, 3, 4, 5, 6, 7, 8, 1, 0] rfl)
          exact lp81 (_ + 1) (0) (Nat.zero_le _) (Nat.lt_succ_self _) 1 0 (rfl) (rfl) x (rfl) _ _ hI hS ls (lv_sub hl [5, 6, 7, 8, 4, 3, 2, 1, 0] rfl)
        · skip
          refine lv_iload hx hb dX0_odds_63 (lv_at hl 1 rfl) ?_
          refine lv_goto (tgt := 70) hx hb dX0_odds_65 (by decide) ?_
          refine lv_iload hx hb dX0_odds_70 (lv_at hl 0 rfl) ?_
          refine lv_idiv hx hb dX0_odds_72 (dv_ne hpp) ?_
          first | rw [od_a c_60] | rw [od_b c_60]
          refine lv_istore (lv' := [(6, .int (nI (odN pp w))), (5, .int (dvI pp 16)), (4, .int (nI pp)), (0, .ref (L 44)), (1, .int (nI k)), (2, .int (nI j)), (3, .int w)]) hx hb dX0_odds_73 hl (by decide) rfl (fun ls hl => ?_)
          refine lv_lconst (v := 1) hx hb dX0_odds_75 (by decide) ?_
          refine lv_lstore (lv' := [(7, .long 1), (6, .int (nI (odN pp w))), (5, .int (dvI pp 16)), (4, .int (nI pp)), (0, .ref (L 44)), (1, .int (nI k)), (2, .int (nI j)), (3, .int w)]) hx hb dX0_odds_76 hl (by decide) rfl (fun ls hl => ?_)
          refine lv_iconst (v := 0) hx hb dX0_odds_78 (by decide) ?_
          refine lv_istore (lv' := [(9, .int 0), (7, .long 1), (6, .int (nI (odN pp w))), (5, .int (dvI pp 16)), (4, .int (nI pp)), (0, .ref (L 44)), (1, .int (nI k)), (2, .int (nI j)), (3, .int w)]) hx hb dX0_odds_79 hl (by decide) rfl (fun ls hl => ?_)
          have lp81 : ∀ (fuel : Nat) (i : Nat), (i ≤ j) → j - i < fuel → ∀ (v7 : Int64) (v9 : Int32), v7 = powL (odN pp w) i → v9 = nI i → ∀ (xc81 : cst), xc81 = x → ∀ (H : Heap) (locs : List Loc), hw D (cfC D L xc81) A H → va_S A s.heap H locs → ∀ (ls : Array Slot), lv_has ls 10 [(0, .ref (L 44)), (1, .int (nI k)), (2, .int (nI j)), (3, .int w), (4, .int (nI pp)), (5, .int (dvI pp 16)), (6, .int (nI (odN pp w))), (7, .long v7), (9, .int v9)] → W p l e ({ frames := 2, cells := 0, slots := 0, locals := 43 } : Room) s m ([.ref (L 44), .int (nI k), .int (nI j), .int w] : List Value).toArray below meth c H locs 0 0 (MQ below (nQ D (cfC D L (aCL x (a_odds (x.1 0) (nI k) (nI j) w))) A (some (.long (aL (a_odds (x.1 0) (nI k) (nI j) w))))) ([.ref (L 44), .int (nI k), .int (nI j), .int w] : List Value).toArray s 0 0 A) (F0 m 81 ls []) := by
            intro fuel
            induction fuel with
            | zero => intro i hi hf; exact absurd hf (Nat.not_lt_zero _)
            | succ fuel ih81 =>
              intro i hi hf81 v7 v9 e7 e9  xc81 exc81 H locs hI hS ls hl
              subst e7 e9
              refine lv_iload hx hb dX0_odds_81 (lv_at hl 8 rfl) ?_
              refine lv_iload_n hx hb dX0_odds_83 rfl (lv_at hl 2 rfl) ?_
              refine lv_icmp_ge (tgt := 101) hx hb dX0_odds_84 (by decide) (fun c_84 => ?_) (fun c_84 => ?_)
              · skip
                have c_84 : j ≤ i := (nle (a := j) (b := i) (rfl) (rfl) (by omega) (by omega)).mp c_84
                refine lv_lload hx hb dX0_odds_101 (lv_at hl 7 rfl) ?_
                exact W.lret hx hb hr (fun t ht _ => ⟨rL (by rw [hA, aL, show i = j by omega]), by rw [ht]; exact hw_eq hI (congrArg (cfC D L) (by rw [hA, exc81]; rfl)), hS.F ht⟩) hS.2.2 dX0_odds_103
              · skip
                have c_84 : ¬ j ≤ i := fun z => c_84 ((nle (a := j) (b := i) (rfl) (rfl) (by omega) (by omega)).mpr z)
                refine lv_lload hx hb dX0_odds_87 (lv_at hl 7 rfl) ?_
                refine lv_iload hx hb dX0_odds_89 (lv_at hl 6 rfl) ?_
                refine lv_i2l (v := (nI (odN pp w) : Int32).toInt64) hx hb dX0_odds_91 rfl ?_
                refine lv_lmul hx hb dX0_odds_92 ?_
                refine lv_lstore (lv' := [(7, .long ((powL (odN pp w) i) * ((nI (odN pp w) : Int32).toInt64))), (0, .ref (L 44)), (1, .int (nI k)), (2, .int (nI j)), (3, .int w), (4, .int (nI pp)), (5, .int (dvI pp 16)), (6, .int (nI (odN pp w))), (9, .int (nI i))]) hx hb dX0_odds_93 hl (by decide) rfl (fun ls hl => ?_)
                refine lv_iinc (v := (nI (i + 1))) (lv' := [(9, .int (nI (i + 1))), (7, .long ((powL (odN pp w) i) * ((nI (odN pp w) : Int32).toInt64))), (0, .ref (L 44)), (1, .int (nI k)), (2, .int (nI j)), (3, .int w), (4, .int (nI pp)), (5, .int (dvI pp 16)), (6, .int (nI (odN pp w)))]) hx hb dX0_odds_95 hl (k := 8) rfl (nI_1 _) (by decide) rfl (fun ls hl => ?_)
                refine lv_goto (tgt := 81) hx hb dX0_odds_98 (by decide) ?_
                exact ih81 (i + 1) (by omega) (by omega) ((powL (odN pp w) i) * ((nI (odN pp w) : Int32).toInt64)) (nI (i + 1)) (by rw [powL, powL, itr_s]) (rfl) xc81 (exc81) _ _ hI hS ls (lv_sub hl [2, 3, 4, 5, 6, 7, 8, 1, 0] rfl)
          exact lp81 (_ + 1) (0) (Nat.zero_le _) (Nat.lt_succ_self _) 1 0 (rfl) (rfl) x (rfl) _ _ hI hS ls (lv_sub hl [5, 6, 7, 8, 4, 3, 2, 1, 0] rfl)
      · skip
        refine lv_aload_n hx hb dX0_odds_27 rfl (lv_at hl 0 rfl) ?_
        refine lv_iconst (v := 0) hx hb dX0_odds_28 (by decide) ?_
        refine c_m (k_V (As := [.int 0]) (rest := []) F (k_X0_finding x 0 (by decide)) (cwV 1 hts (lw_V q457 q459 qs2 q91 q460) rfl rfl rfl (by decide +kernel) ⟨Nat.le_of_ble_eq_true rfl, Nat.le_of_ble_eq_true rfl⟩) hI hK (hw.recv hI hK (cf_main) rfl) rfl hl.1 rfl (Nat.le_of_ble_eq_true rfl) dX0_odds_29 ⟨Nat.le_of_ble_eq_true rfl, Nat.le_of_ble_eq_true rfl⟩) hS (fun H1 locs1 hI hS => ?_)
        obtain ⟨x3, ex3⟩ : ∃ z, z = (fnd x 0) := ⟨_, rfl⟩
        rw [← ex3] at hI
        refine lv_i2l (v := ((-1000001 - nI 0) : Int32).toInt64) hx hb dX0_odds_32 rfl ?_
        exact W.lret hx hb hr (fun t ht _ => ⟨rL (by simp [a_odds, aL, c_5, c_15, c_24]), by rw [ht]; exact hw_eq hI (congrArg (cfC D L) (by rw [ex3]; simp [a_odds, aCL, c_5, c_15, c_24])), hS.F ht⟩) hS.2.2 dX0_odds_33
theorem k_X13_odds {l : Launch} {D : va_G} {L : Nat → Nat} {A : Nat → Prop} (x : mst) (hO : wOk (x.1 0)) (g n w : Int32) : Met l yX13_odds (ws_ yX13_odds cX13_odds 9 (some .long)) ({ frames := 2, cells := 0, slots := 0, locals := 46 } : Room) (va_Pc [.ref (L 0), .int g, .int n, .int w] (pI D (cfM D L x) A)) (nQ D (cfM D L (aML x (a_odds (x.1 0) g n w))) A (some (.long (aL (a_odds (x.1 0) g n w))))) 0 0 A := by
  refine met_I (by decide) rfl (Nat.le_of_ble_eq_true rfl) ?_
  intro p e s m below meth c ls hx hb hr hml hown hts hlocks hl hI hK
  have F : CallFix p m c cX13_odds 9 s _ lw_all RX13 := ⟨hx, hb, hml, hown, hts⟩
  have hl : lv_has ls 9 [(0, .ref (L 0)), (1, .int g), (2, .int n), (3, .int w)] := hl
  have hS : va_S A s.heap s.heap [] := va_S.rf
  obtain ⟨nn, hn, h8⟩ : ∃ n, x.1 0 1 0 = nI n ∧ n ≤ 8 := ⟨_, hO.n⟩
  have hN : wN (x.1 0) = nn := by unfold wN; rw [hn, nI_clamp (by omega)]
  refine lv_aload_n hx hb dX13_odds_0 rfl (lv_at hl 0 rfl) ?_
  refine lv_iload_n hx hb dX13_odds_1 rfl (lv_at hl 1 rfl) ?_
  refine c_r (k_V (As := [.int g]) (rest := []) F (k_X13_isGlove x g) (cwV 1 hts (lw_V q1289 q1291 qs55 q107 q1292) rfl rfl rfl (by decide +kernel) ⟨Nat.le_of_ble_eq_true rfl, Nat.le_of_ble_eq_true rfl⟩) hI hK (hw.recv hI hK (mf_main) rfl) rfl hl.1 rfl (Nat.le_of_ble_eq_true rfl) dX13_odds_2 ⟨Nat.le_of_ble_eq_true rfl, Nat.le_of_ble_eq_true rfl⟩) ?_
  refine lv_if_eq (tgt := 30) hx hb dX13_odds_5 (by decide) (fun c_5 => ?_) (fun c_5 => ?_)
  · skip
    refine lv_aload_n hx hb dX13_odds_30 rfl (lv_at hl 0 rfl) ?_
    refine lv_iconst (v := 0) hx hb dX13_odds_31 (by decide) ?_
    refine c_m (k_V (As := [.int 0]) (rest := []) F (k_X13_finds x 0 (by decide)) (cwV 1 hts (lw_V q1238 q1240 qs47 q107 q1241) rfl rfl rfl (by decide +kernel) ⟨Nat.le_of_ble_eq_true rfl, Nat.le_of_ble_eq_true rfl⟩) hI hK (hw.recv hI hK (mf_main) rfl) rfl hl.1 rfl (Nat.le_of_ble_eq_true rfl) dX13_odds_32 ⟨Nat.le_of_ble_eq_true rfl, Nat.le_of_ble_eq_true rfl⟩) hS (fun H1 locs1 hI hS => ?_)
    obtain ⟨x1, ex1⟩ : ∃ z, z = (fndM x 0) := ⟨_, rfl⟩
    rw [← ex1] at hI
    refine lv_i2l (v := ((-1000001 - nI 0) : Int32).toInt64) hx hb dX13_odds_35 rfl ?_
    exact W.lret hx hb hr (fun t ht _ => ⟨rL (by simp [a_odds, aL, c_5]), by rw [ht]; exact hw_eq hI (congrArg (cfM D L) (by rw [ex1]; simp [a_odds, aML, c_5])), hS.F ht⟩) hS.2.2 dX13_odds_36
  · skip
    refine lv_iload_n hx hb dX13_odds_8 rfl (lv_at hl 2 rfl) ?_
    refine lv_i2l (v := (n : Int32).toInt64) hx hb dX13_odds_9 rfl ?_
    refine lv_lconst (v := 0) hx hb dX13_odds_10 (by decide) ?_
    refine lv_ldc2 (v := 15) hx hb hown (hts _ q1336) dX13_odds_11 ?_
    refine c_r (k_S (As := [.long ((n : Int32).toInt64), .long 0, .long 15]) (rest := []) F (k_X13_in n 0 15 ((n : Int32).toInt64 : Int64) (0 : Int64) (15 : Int64) rfl (by decide) (by decide)) (va_cwS 3 hts (lw_S q1227 q1228 q107 q1229) rfl rfl rfl (by decide +kernel) ⟨Nat.le_of_ble_eq_true rfl, Nat.le_of_ble_eq_true rfl⟩) rfl hl.1 rfl (Nat.le_of_ble_eq_true rfl) dX13_odds_14 ⟨Nat.le_of_ble_eq_true rfl, Nat.le_of_ble_eq_true rfl⟩) ?_
    refine lv_if_eq (tgt := 30) hx hb dX13_odds_17 (by decide) (fun c_17 => ?_) (fun c_17 => ?_)
    · skip
      refine lv_aload_n hx hb dX13_odds_30 rfl (lv_at hl 0 rfl) ?_
      refine lv_iconst (v := 0) hx hb dX13_odds_31 (by decide) ?_
      refine c_m (k_V (As := [.int 0]) (rest := []) F (k_X13_finds x 0 (by decide)) (cwV 1 hts (lw_V q1238 q1240 qs47 q107 q1241) rfl rfl rfl (by decide +kernel) ⟨Nat.le_of_ble_eq_true rfl, Nat.le_of_ble_eq_true rfl⟩) hI hK (hw.recv hI hK (mf_main) rfl) rfl hl.1 rfl (Nat.le_of_ble_eq_true rfl) dX13_odds_32 ⟨Nat.le_of_ble_eq_true rfl, Nat.le_of_ble_eq_true rfl⟩) hS (fun H1 locs1 hI hS => ?_)
      obtain ⟨x2, ex2⟩ : ∃ z, z = (fndM x 0) := ⟨_, rfl⟩
      rw [← ex2] at hI
      refine lv_i2l (v := ((-1000001 - nI 0) : Int32).toInt64) hx hb dX13_odds_35 rfl ?_
      exact W.lret hx hb hr (fun t ht _ => ⟨rL (by simp [a_odds, aL, c_5, c_17]), by rw [ht]; exact hw_eq hI (congrArg (cfM D L) (by rw [ex2]; simp [a_odds, aML, c_5, c_17])), hS.F ht⟩) hS.2.2 dX13_odds_36
    · skip
      refine lv_iload_n hx hb dX13_odds_20 rfl (lv_at hl 3 rfl) ?_
      refine lv_i2l (v := (w : Int32).toInt64) hx hb dX13_odds_21 rfl ?_
      refine lv_lconst (v := 0) hx hb dX13_odds_22 (by decide) ?_
      refine lv_lconst (v := 1) hx hb dX13_odds_23 (by decide) ?_
      refine c_r (k_S (As := [.long ((w : Int32).toInt64), .long 0, .long 1]) (rest := []) F (k_X13_in w 0 1 ((w : Int32).toInt64 : Int64) (0 : Int64) (1 : Int64) rfl (by decide) (by decide)) (va_cwS 3 hts (lw_S q1227 q1228 q107 q1229) rfl rfl rfl (by decide +kernel) ⟨Nat.le_of_ble_eq_true rfl, Nat.le_of_ble_eq_true rfl⟩) rfl hl.1 rfl (Nat.le_of_ble_eq_true rfl) dX13_odds_24 ⟨Nat.le_of_ble_eq_true rfl, Nat.le_of_ble_eq_true rfl⟩) ?_
      refine lv_if_ne (tgt := 37) hx hb dX13_odds_27 (by decide) (fun c_27 => ?_) (fun c_27 => ?_)
      · skip
        obtain ⟨k, hk, eg⟩ := isGl_to hn h8 c_5
        have eg2 : g.toNatClampNeg = k := by rw [eg, nI_clamp (by omega)]
        obtain ⟨j, hj, en⟩ := inI_to (b := 15) rfl (by decide) c_17
        have en2 : n.toNatClampNeg = j := by rw [en, nI_clamp (by omega)]
        obtain ⟨pp, hpp, hp⟩ := bc_16 (hO.2.1 k (by omega)).2.2.2.2.2.1
        have hA : a_odds (x.1 0) g n w = .inr (powL (odN pp w) j) := by simp only [a_odds, if_neg c_5, if_neg c_17, if_neg c_27, eg2, en2, hp, nI_clamp (show pp < 2 ^ 31 by omega)]
        subst eg
        subst en
        refine lv_aload_n hx hb dX13_odds_37 rfl (lv_at hl 0 rfl) ?_
        refine lv_iload_n hx hb dX13_odds_38 rfl (lv_at hl 1 rfl) ?_
        refine lv_iconst (v := 5) hx hb dX13_odds_39 (by decide) ?_
        refine c_r (k_V (As := [.int (nI k), .int 5]) (rest := []) F (k_X13_its x (nI k) 5 k 5 (by omega) (by omega) rfl rfl) (cwV 2 hts (lw_V q1256 q1258 qs49 q107 q1259) rfl rfl rfl (by decide +kernel) ⟨Nat.le_of_ble_eq_true rfl, Nat.le_of_ble_eq_true rfl⟩) hI hK (hw.recv hI hK (mf_main) rfl) rfl hl.1 rfl (Nat.le_of_ble_eq_true rfl) dX13_odds_40 ⟨Nat.le_of_ble_eq_true rfl, Nat.le_of_ble_eq_true rfl⟩) ?_
        refine c_r (k_S (As := [.int (x.1 0 (2 + 5) k)]) (rest := []) F (k_X13_ones (x.1 0 (2 + 5) k) ((hO.2.1 k (by omega)).2.2.2.2.2.1)) (va_cwS 1 hts (lw_S q1363 q1364 q107 q1365) rfl rfl rfl (by decide +kernel) ⟨Nat.le_of_ble_eq_true rfl, Nat.le_of_ble_eq_true rfl⟩) rfl hl.1 rfl (Nat.le_of_ble_eq_true rfl) dX13_odds_43 ⟨Nat.le_of_ble_eq_true rfl, Nat.le_of_ble_eq_true rfl⟩) ?_
        rw [hp]
        refine lv_istore (lv' := [(4, .int (nI pp)), (0, .ref (L 0)), (1, .int (nI k)), (2, .int (nI j)), (3, .int w)]) hx hb dX13_odds_46 hl (by decide) rfl (fun ls hl => ?_)
        refine lv_bipush (v := 16) hx hb dX13_odds_48 (by decide) ?_
        refine lv_istore (lv' := [(5, .int 16), (4, .int (nI pp)), (0, .ref (L 0)), (1, .int (nI k)), (2, .int (nI j)), (3, .int w)]) hx hb dX13_odds_50 hl (by decide) rfl (fun ls hl => ?_)
        have lp52 : ∀ (fuel : Nat) (u : Nat), (u ≤ 4) → (pp % 2 ^ u = 0) → 4 - u < fuel → ∀ (v4 : Int32) (v5 : Int32), v4 = nI (pp / 2 ^ u) → v5 = nI (16 / 2 ^ u) → ∀ (xc52 : mst), xc52 = x → ∀ (H : Heap) (locs : List Loc), hw D (cfM D L xc52) A H → va_S A s.heap H locs → ∀ (ls : Array Slot), lv_has ls 9 [(0, .ref (L 0)), (1, .int (nI k)), (2, .int (nI j)), (3, .int w), (4, .int v4), (5, .int v5)] → W p l e ({ frames := 2, cells := 0, slots := 0, locals := 46 } : Room) s m ([.ref (L 0), .int (nI k), .int (nI j), .int w] : List Value).toArray below meth c H locs 0 0 (MQ below (nQ D (cfM D L (aML x (a_odds (x.1 0) (nI k) (nI j) w))) A (some (.long (aL (a_odds (x.1 0) (nI k) (nI j) w))))) ([.ref (L 0), .int (nI k), .int (nI j), .int w] : List Value).toArray s 0 0 A) (F0 m 52 ls []) := by
          intro fuel
          induction fuel with
          | zero => intro u hu4 hud hf; exact absurd hf (Nat.not_lt_zero _)
          | succ fuel ih52 =>
            intro u hu4 hud hf52 v4 v5 e4 e5  xc52 exc52 H locs hI hS ls hl
            subst e4 e5
            refine lv_iload hx hb dX13_odds_52 (lv_at hl 4 rfl) ?_
            have hu1 : pp / 2 ^ u ≤ 16 := Nat.le_trans (Nat.div_le_self _ _) (by omega)
            have hu2 : 16 / 2 ^ u ≤ 16 := Nat.div_le_self _ _
            refine lv_iconst (v := 2) hx hb dX13_odds_54 (by decide) ?_
            refine lv_irem hx hb dX13_odds_55 (by decide) ?_
            refine lv_if_ne (tgt := 80) hx hb dX13_odds_56 (by decide) (fun c_56 => ?_) (fun c_56 => ?_)
            · skip
              have c_56 : ¬ pp / 2 ^ u % 2 = 0 := fun z => c_56 ((neq (a := pp / 2 ^ u % 2) (b := 0) (pk_rem (d := 2) (by have := Nat.div_le_self pp (2 ^ u); omega) (by decide) (by decide)) (rfl) (by omega) (by omega)).mpr z)
              obtain ⟨hod0, hod1⟩ := od_m hpp hu4 hud (by first | (right; omega) | (left; omega))
              refine lv_lconst (v := 1) hx hb dX13_odds_80 (by decide) ?_
              refine lv_lstore (lv' := [(6, .long 1), (0, .ref (L 0)), (1, .int (nI k)), (2, .int (nI j)), (3, .int w), (4, .int (nI (pp / 2 ^ u))), (5, .int (nI (16 / 2 ^ u)))]) hx hb dX13_odds_81 hl (by decide) rfl (fun ls hl => ?_)
              refine lv_iconst (v := 0) hx hb dX13_odds_83 (by decide) ?_
              refine lv_istore (lv' := [(8, .int 0), (6, .long 1), (0, .ref (L 0)), (1, .int (nI k)), (2, .int (nI j)), (3, .int w), (4, .int (nI (pp / 2 ^ u))), (5, .int (nI (16 / 2 ^ u)))]) hx hb dX13_odds_84 hl (by decide) rfl (fun ls hl => ?_)
              have lp86 : ∀ (fuel : Nat) (i : Nat), (i ≤ j) → j - i < fuel → ∀ (v6 : Int64) (v8 : Int32), v6 = powL (odN pp w) i → v8 = nI i → ∀ (xc86 : mst), xc86 = x → ∀ (H : Heap) (locs : List Loc), hw D (cfM D L xc86) A H → va_S A s.heap H locs → ∀ (ls : Array Slot), lv_has ls 9 [(0, .ref (L 0)), (1, .int (nI k)), (2, .int (nI j)), (3, .int w), (4, .int (nI (pp / 2 ^ u))), (5, .int (nI (16 / 2 ^ u))), (6, .long v6), (8, .int v8)] → W p l e ({ frames := 2, cells := 0, slots := 0, locals := 46 } : Room) s m ([.ref (L 0), .int (nI k), .int (nI j), .int w] : List Value).toArray below meth c H locs 0 0 (MQ below (nQ D (cfM D L (aML x (a_odds (x.1 0) (nI k) (nI j) w))) A (some (.long (aL (a_odds (x.1 0) (nI k) (nI j) w))))) ([.ref (L 0), .int (nI k), .int (nI j), .int w] : List Value).toArray s 0 0 A) (F0 m 86 ls []) := by
                intro fuel
                induction fuel with
                | zero => intro i hi hf; exact absurd hf (Nat.not_lt_zero _)
                | succ fuel ih86 =>
                  intro i hi hf86 v6 v8 e6 e8  xc86 exc86 H locs hI hS ls hl
                  subst e6 e8
                  refine lv_iload hx hb dX13_odds_86 (lv_at hl 7 rfl) ?_
                  refine lv_iload_n hx hb dX13_odds_88 rfl (lv_at hl 2 rfl) ?_
                  refine lv_icmp_ge (tgt := 116) hx hb dX13_odds_89 (by decide) (fun c_89 => ?_) (fun c_89 => ?_)
                  · skip
                    have c_89 : j ≤ i := (nle (a := j) (b := i) (rfl) (rfl) (by omega) (by omega)).mp c_89
                    refine lv_lload hx hb dX13_odds_116 (lv_at hl 6 rfl) ?_
                    exact W.lret hx hb hr (fun t ht _ => ⟨rL (by rw [hA, aL, show i = j by omega]), by rw [ht]; exact hw_eq hI (congrArg (cfM D L) (by rw [hA, exc86]; rfl)), hS.F ht⟩) hS.2.2 dX13_odds_118
                  · skip
                    have c_89 : ¬ j ≤ i := fun z => c_89 ((nle (a := j) (b := i) (rfl) (rfl) (by omega) (by omega)).mpr z)
                    refine lv_lload hx hb dX13_odds_92 (lv_at hl 6 rfl) ?_
                    refine lv_iload_n hx hb dX13_odds_94 rfl (lv_at hl 3 rfl) ?_
                    refine lv_if_ne (tgt := 104) hx hb dX13_odds_95 (by decide) (fun c_95 => ?_) (fun c_95 => ?_)
                    · skip
                      refine lv_iload hx hb dX13_odds_104 (lv_at hl 5 rfl) ?_
                      refine lv_i2l (v := (nI (16 / 2 ^ u) : Int32).toInt64) hx hb dX13_odds_106 rfl ?_
                      refine lv_lmul hx hb dX13_odds_107 ?_
                      refine lv_lstore (lv' := [(6, .long ((powL (odN pp w) i) * ((nI (16 / 2 ^ u) : Int32).toInt64))), (0, .ref (L 0)), (1, .int (nI k)), (2, .int (nI j)), (3, .int w), (4, .int (nI (pp / 2 ^ u))), (5, .int (nI (16 / 2 ^ u))), (8, .int (nI i))]) hx hb dX13_odds_108 hl (by decide) rfl (fun ls hl => ?_)
                      refine lv_iinc (v := (nI (i + 1))) (lv' := [(8, .int (nI (i + 1))), (6, .long ((powL (odN pp w) i) * ((nI (16 / 2 ^ u) : Int32).toInt64))), (0, .ref (L 0)), (1, .int (nI k)), (2, .int (nI j)), (3, .int w), (4, .int (nI (pp / 2 ^ u))), (5, .int (nI (16 / 2 ^ u)))]) hx hb dX13_odds_110 hl (k := 7) rfl (nI_1 _) (by decide) rfl (fun ls hl => ?_)
                      refine lv_goto (tgt := 86) hx hb dX13_odds_113 (by decide) ?_
                      exact ih86 (i + 1) (by omega) (by omega) ((powL (odN pp w) i) * ((nI (16 / 2 ^ u) : Int32).toInt64)) (nI (i + 1)) (by rw [powL, powL, itr_s]; first | rw [hod0 c_95] | rw [hod1 c_95]) (rfl) xc86 (exc86) _ _ hI hS ls (lv_sub hl [2, 3, 4, 5, 6, 7, 1, 0] rfl)
                    · skip
                      refine lv_iload hx hb dX13_odds_98 (lv_at hl 4 rfl) ?_
                      refine lv_i2l (v := (nI (pp / 2 ^ u) : Int32).toInt64) hx hb dX13_odds_100 rfl ?_
                      refine lv_goto (tgt := 107) hx hb dX13_odds_101 (by decide) ?_
                      refine lv_lmul hx hb dX13_odds_107 ?_
                      refine lv_lstore (lv' := [(6, .long ((powL (odN pp w) i) * ((nI (pp / 2 ^ u) : Int32).toInt64))), (0, .ref (L 0)), (1, .int (nI k)), (2, .int (nI j)), (3, .int w), (4, .int (nI (pp / 2 ^ u))), (5, .int (nI (16 / 2 ^ u))), (8, .int (nI i))]) hx hb dX13_odds_108 hl (by decide) rfl (fun ls hl => ?_)
                      refine lv_iinc (v := (nI (i + 1))) (lv' := [(8, .int (nI (i + 1))), (6, .long ((powL (odN pp w) i) * ((nI (pp / 2 ^ u) : Int32).toInt64))), (0, .ref (L 0)), (1, .int (nI k)), (2, .int (nI j)), (3, .int w), (4, .int (nI (pp / 2 ^ u))), (5, .int (nI (16 / 2 ^ u)))]) hx hb dX13_odds_110 hl (k := 7) rfl (nI_1 _) (by decide) rfl (fun ls hl => ?_)
                      refine lv_goto (tgt := 86) hx hb dX13_odds_113 (by decide) ?_
                      exact ih86 (i + 1) (by omega) (by omega) ((powL (odN pp w) i) * ((nI (pp / 2 ^ u) : Int32).toInt64)) (nI (i + 1)) (by rw [powL, powL, itr_s]; first | rw [hod0 c_95] | rw [hod1 c_95]) (rfl) xc86 (exc86) _ _ hI hS ls (lv_sub hl [2, 3, 4, 5, 6, 7, 1, 0] rfl)
              exact lp86 (_ + 1) (0) (Nat.zero_le _) (Nat.lt_succ_self _) 1 0 (rfl) (rfl) xc52 (exc52) _ _ hI hS ls (lv_sub hl [2, 3, 4, 5, 6, 7, 1, 0] rfl)
            · skip
              have c_56 : pp / 2 ^ u % 2 = 0 := (neq (a := pp / 2 ^ u % 2) (b := 0) (pk_rem (d := 2) (by have := Nat.div_le_self pp (2 ^ u); omega) (by decide) (by decide)) (rfl) (by omega) (by omega)).mp c_56
              refine lv_iload hx hb dX13_odds_59 (lv_at hl 5 rfl) ?_
              refine lv_iconst (v := 1) hx hb dX13_odds_61 (by decide) ?_
              refine lv_icmp_le (tgt := 80) hx hb dX13_odds_62 (by decide) (fun c_62 => ?_) (fun c_62 => ?_)
              · skip
                have c_62 : 16 / 2 ^ u ≤ 1 := (nle (a := 16 / 2 ^ u) (b := 1) (rfl) (rfl) (by omega) (by omega)).mp c_62
                obtain ⟨hod0, hod1⟩ := od_m hpp hu4 hud (by first | (right; omega) | (left; omega))
                refine lv_lconst (v := 1) hx hb dX13_odds_80 (by decide) ?_
                refine lv_lstore (lv' := [(6, .long 1), (0, .ref (L 0)), (1, .int (nI k)), (2, .int (nI j)), (3, .int w), (4, .int (nI (pp / 2 ^ u))), (5, .int (nI (16 / 2 ^ u)))]) hx hb dX13_odds_81 hl (by decide) rfl (fun ls hl => ?_)
                refine lv_iconst (v := 0) hx hb dX13_odds_83 (by decide) ?_
                refine lv_istore (lv' := [(8, .int 0), (6, .long 1), (0, .ref (L 0)), (1, .int (nI k)), (2, .int (nI j)), (3, .int w), (4, .int (nI (pp / 2 ^ u))), (5, .int (nI (16 / 2 ^ u)))]) hx hb dX13_odds_84 hl (by decide) rfl (fun ls hl => ?_)
                have lp86 : ∀ (fuel : Nat) (i : Nat), (i ≤ j) → j - i < fuel → ∀ (v6 : Int64) (v8 : Int32), v6 = powL (odN pp w) i → v8 = nI i → ∀ (xc86 : mst), xc86 = x → ∀ (H : Heap) (locs : List Loc), hw D (cfM D L xc86) A H → va_S A s.heap H locs → ∀ (ls : Array Slot), lv_has ls 9 [(0, .ref (L 0)), (1, .int (nI k)), (2, .int (nI j)), (3, .int w), (4, .int (nI (pp / 2 ^ u))), (5, .int (nI (16 / 2 ^ u))), (6, .long v6), (8, .int v8)] → W p l e ({ frames := 2, cells := 0, slots := 0, locals := 46 } : Room) s m ([.ref (L 0), .int (nI k), .int (nI j), .int w] : List Value).toArray below meth c H locs 0 0 (MQ below (nQ D (cfM D L (aML x (a_odds (x.1 0) (nI k) (nI j) w))) A (some (.long (aL (a_odds (x.1 0) (nI k) (nI j) w))))) ([.ref (L 0), .int (nI k), .int (nI j), .int w] : List Value).toArray s 0 0 A) (F0 m 86 ls []) := by
                  intro fuel
                  induction fuel with
                  | zero => intro i hi hf; exact absurd hf (Nat.not_lt_zero _)
                  | succ fuel ih86 =>
                    intro i hi hf86 v6 v8 e6 e8  xc86 exc86 H locs hI hS ls hl
                    subst e6 e8
                    refine lv_iload hx hb dX13_odds_86 (lv_at hl 7 rfl) ?_
                    refine lv_iload_n hx hb dX13_odds_88 rfl (lv_at hl 2 rfl) ?_
                    refine lv_icmp_ge (tgt := 116) hx hb dX13_odds_89 (by decide) (fun c_89 => ?_) (fun c_89 => ?_)
                    · skip
                      have c_89 : j ≤ i := (nle (a := j) (b := i) (rfl) (rfl) (by omega) (by omega)).mp c_89
                      refine lv_lload hx hb dX13_odds_116 (lv_at hl 6 rfl) ?_
                      exact W.lret hx hb hr (fun t ht _ => ⟨rL (by rw [hA, aL, show i = j by omega]), by rw [ht]; exact hw_eq hI (congrArg (cfM D L) (by rw [hA, exc86]; rfl)), hS.F ht⟩) hS.2.2 dX13_odds_118
                    · skip
                      have c_89 : ¬ j ≤ i := fun z => c_89 ((nle (a := j) (b := i) (rfl) (rfl) (by omega) (by omega)).mpr z)
                      refine lv_lload hx hb dX13_odds_92 (lv_at hl 6 rfl) ?_
                      refine lv_iload_n hx hb dX13_odds_94 rfl (lv_at hl 3 rfl) ?_
                      refine lv_if_ne (tgt := 104) hx hb dX13_odds_95 (by decide) (fun c_95 => ?_) (fun c_95 => ?_)
                      · skip
                        refine lv_iload hx hb dX13_odds_104 (lv_at hl 5 rfl) ?_
                        refine lv_i2l (v := (nI (16 / 2 ^ u) : Int32).toInt64) hx hb dX13_odds_106 rfl ?_
                        refine lv_lmul hx hb dX13_odds_107 ?_
                        refine lv_lstore (lv' := [(6, .long ((powL (odN pp w) i) * ((nI (16 / 2 ^ u) : Int32).toInt64))), (0, .ref (L 0)), (1, .int (nI k)), (2, .int (nI j)), (3, .int w), (4, .int (nI (pp / 2 ^ u))), (5, .int (nI (16 / 2 ^ u))), (8, .int (nI i))]) hx hb dX13_odds_108 hl (by decide) rfl (fun ls hl => ?_)
                        refine lv_iinc (v := (nI (i + 1))) (lv' := [(8, .int (nI (i + 1))), (6, .long ((powL (odN pp w) i) * ((nI (16 / 2 ^ u) : Int32).toInt64))), (0, .ref (L 0)), (1, .int (nI k)), (2, .int (nI j)), (3, .int w), (4, .int (nI (pp / 2 ^ u))), (5, .int (nI (16 / 2 ^ u)))]) hx hb dX13_odds_110 hl (k := 7) rfl (nI_1 _) (by decide) rfl (fun ls hl => ?_)
                        refine lv_goto (tgt := 86) hx hb dX13_odds_113 (by decide) ?_
                        exact ih86 (i + 1) (by omega) (by omega) ((powL (odN pp w) i) * ((nI (16 / 2 ^ u) : Int32).toInt64)) (nI (i + 1)) (by rw [powL, powL, itr_s]; first | rw [hod0 c_95] | rw [hod1 c_95]) (rfl) xc86 (exc86) _ _ hI hS ls (lv_sub hl [2, 3, 4, 5, 6, 7, 1, 0] rfl)
                      · skip
                        refine lv_iload hx hb dX13_odds_98 (lv_at hl 4 rfl) ?_
                        refine lv_i2l (v := (nI (pp / 2 ^ u) : Int32).toInt64) hx hb dX13_odds_100 rfl ?_
                        refine lv_goto (tgt := 107) hx hb dX13_odds_101 (by decide) ?_
                        refine lv_lmul hx hb dX13_odds_107 ?_
                        refine lv_lstore (lv' := [(6, .long ((powL (odN pp w) i) * ((nI (pp / 2 ^ u) : Int32).toInt64))), (0, .ref (L 0)), (1, .int (nI k)), (2, .int (nI j)), (3, .int w), (4, .int (nI (pp / 2 ^ u))), (5, .int (nI (16 / 2 ^ u))), (8, .int (nI i))]) hx hb dX13_odds_108 hl (by decide) rfl (fun ls hl => ?_)
                        refine lv_iinc (v := (nI (i + 1))) (lv' := [(8, .int (nI (i + 1))), (6, .long ((powL (odN pp w) i) * ((nI (pp / 2 ^ u) : Int32).toInt64))), (0, .ref (L 0)), (1, .int (nI k)), (2, .int (nI j)), (3, .int w), (4, .int (nI (pp / 2 ^ u))), (5, .int (nI (16 / 2 ^ u)))]) hx hb dX13_odds_110 hl (k := 7) rfl (nI_1 _) (by decide) rfl (fun ls hl => ?_)
                        refine lv_goto (tgt := 86) hx hb dX13_odds_113 (by decide) ?_
                        exact ih86 (i + 1) (by omega) (by omega) ((powL (odN pp w) i) * ((nI (pp / 2 ^ u) : Int32).toInt64)) (nI (i + 1)) (by rw [powL, powL, itr_s]; first | rw [hod0 c_95] | rw [hod1 c_95]) (rfl) xc86 (exc86) _ _ hI hS ls (lv_sub hl [2, 3, 4, 5, 6, 7, 1, 0] rfl)
                exact lp86 (_ + 1) (0) (Nat.zero_le _) (Nat.lt_succ_self _) 1 0 (rfl) (rfl) xc52 (exc52) _ _ hI hS ls (lv_sub hl [2, 3, 4, 5, 6, 7, 1, 0] rfl)
              · skip
                have c_62 : ¬ 16 / 2 ^ u ≤ 1 := fun z => c_62 ((nle (a := 16 / 2 ^ u) (b := 1) (rfl) (rfl) (by omega) (by omega)).mpr z)
                have hv1 : nI (pp / 2 ^ u) / 2 = nI (pp / 2 ^ (u + 1)) := by rw [show (2 : Int32) = nI 2 from rfl, pk_div (by omega) (by decide) (by decide), Nat.div_div_eq_div_mul, Nat.pow_succ]
                have hv2 : nI (16 / 2 ^ u) / 2 = nI (16 / 2 ^ (u + 1)) := by rw [show (2 : Int32) = nI 2 from rfl, pk_div (by omega) (by decide) (by decide), Nat.div_div_eq_div_mul, Nat.pow_succ]
                refine lv_iload hx hb dX13_odds_65 (lv_at hl 4 rfl) ?_
                refine lv_iconst (v := 2) hx hb dX13_odds_67 (by decide) ?_
                refine lv_idiv hx hb dX13_odds_68 (by decide) ?_
                rw [hv1]
                refine lv_istore (lv' := [(4, .int (nI (pp / 2 ^ (u + 1)))), (0, .ref (L 0)), (1, .int (nI k)), (2, .int (nI j)), (3, .int w), (5, .int (nI (16 / 2 ^ u)))]) hx hb dX13_odds_69 hl (by decide) rfl (fun ls hl => ?_)
                refine lv_iload hx hb dX13_odds_71 (lv_at hl 5 rfl) ?_
                refine lv_iconst (v := 2) hx hb dX13_odds_73 (by decide) ?_
                refine lv_idiv hx hb dX13_odds_74 (by decide) ?_
                rw [hv2]
                refine lv_istore (lv' := [(5, .int (nI (16 / 2 ^ (u + 1)))), (4, .int (nI (pp / 2 ^ (u + 1)))), (0, .ref (L 0)), (1, .int (nI k)), (2, .int (nI j)), (3, .int w)]) hx hb dX13_odds_75 hl (by decide) rfl (fun ls hl => ?_)
                refine lv_goto (tgt := 52) hx hb dX13_odds_77 (by decide) ?_
                exact ih52 (u + 1) (by exact od_u c_62 hu4) (od_d hud c_56) (by have := od_u c_62 hu4; omega) (nI (pp / 2 ^ (u + 1))) (nI (16 / 2 ^ (u + 1))) (rfl) (rfl) xc52 (exc52) _ _ hI hS ls (lv_sub hl [2, 3, 4, 5, 1, 0] rfl)
        exact lp52 (_ + 1) (0) (by decide) (Nat.mod_one _) (Nat.lt_succ_self _) (nI pp) 16 (by rw [Nat.pow_zero, Nat.div_one]) (rfl) x (rfl) _ _ hI hS ls (lv_sub hl [2, 3, 4, 5, 1, 0] rfl)
      · skip
        refine lv_aload_n hx hb dX13_odds_30 rfl (lv_at hl 0 rfl) ?_
        refine lv_iconst (v := 0) hx hb dX13_odds_31 (by decide) ?_
        refine c_m (k_V (As := [.int 0]) (rest := []) F (k_X13_finds x 0 (by decide)) (cwV 1 hts (lw_V q1238 q1240 qs47 q107 q1241) rfl rfl rfl (by decide +kernel) ⟨Nat.le_of_ble_eq_true rfl, Nat.le_of_ble_eq_true rfl⟩) hI hK (hw.recv hI hK (mf_main) rfl) rfl hl.1 rfl (Nat.le_of_ble_eq_true rfl) dX13_odds_32 ⟨Nat.le_of_ble_eq_true rfl, Nat.le_of_ble_eq_true rfl⟩) hS (fun H1 locs1 hI hS => ?_)
        obtain ⟨x3, ex3⟩ : ∃ z, z = (fndM x 0) := ⟨_, rfl⟩
        rw [← ex3] at hI
        refine lv_i2l (v := ((-1000001 - nI 0) : Int32).toInt64) hx hb dX13_odds_35 rfl ?_
        exact W.lret hx hb hr (fun t ht _ => ⟨rL (by simp [a_odds, aL, c_5, c_17, c_27]), by rw [ht]; exact hw_eq hI (congrArg (cfM D L) (by rw [ex3]; simp [a_odds, aML, c_5, c_17, c_27])), hS.F ht⟩) hS.2.2 dX13_odds_36
theorem k_X0_feed {l : Launch} {D : va_G} {L : Nat → Nat} {A : Nat → Prop} (x : cst) (b n : Int32) (t : Nat) (ht : t ≤ 120) (et : x.2.1 0 0 = nI t) : Met l yX0_feed (ws_ yX0_feed cX0_feed 4 (some .int)) ({ frames := 1, cells := 0, slots := 0, locals := 22 } : Room) (va_Pc [.ref (L 44), .int b, .int n] (pI D (cfC D L x) A)) (nQ D (cfC D L (aCF x b t n (a_feed t n))) A (some (.int (aF (a_feed t n))))) 0 0 A := by
  refine met_I (by decide) rfl (Nat.le_of_ble_eq_true rfl) ?_
  intro p e s m below meth c ls hx hb hr hml hown hts hlocks hl hI hK
  have F : CallFix p m c cX0_feed 4 s _ lw_all RX0 := ⟨hx, hb, hml, hown, hts⟩
  have hl : lv_has ls 4 [(0, .ref (L 44)), (1, .int b), (2, .int n)] := hl
  have hS : va_S A s.heap s.heap [] := va_S.rf
  refine lv_iload_n hx hb dX0_feed_0 rfl (lv_at hl 2 rfl) ?_
  refine lv_iconst (v := 1) hx hb dX0_feed_1 (by decide) ?_
  refine lv_iconst (v := 4) hx hb dX0_feed_2 (by decide) ?_
  refine c_r (k_S (As := [.int n, .int 1, .int 4]) (rest := []) F (k_X0_in n 1 4) (va_cwS 3 hts (lw_S q439 q440 q91 q441) rfl rfl rfl (by decide +kernel) ⟨Nat.le_of_ble_eq_true rfl, Nat.le_of_ble_eq_true rfl⟩) rfl hl.1 rfl (Nat.le_of_ble_eq_true rfl) dX0_feed_3 ⟨Nat.le_of_ble_eq_true rfl, Nat.le_of_ble_eq_true rfl⟩) ?_
  refine lv_if_ne (tgt := 15) hx hb dX0_feed_6 (by decide) (fun c_6 => ?_) (fun c_6 => ?_)
  · skip
    obtain ⟨k, hk1, hk, en⟩ := inI_to1 (a := 1) (b := 4) rfl rfl (by decide) (by decide) c_6
    have en2 : n.toNatClampNeg = k := by rw [en, nI_clamp (by omega)]
    subst en
    refine lv_aload_n hx hb dX0_feed_15 rfl (lv_at hl 0 rfl) ?_
    refine r_get (C := RX0) (T := TX0) (N := 11) hx hb hts in_X0 hown hK hI (cf_main) rfl 2 (by decide) (hts _ q398) (fun _ h => h) rfl dX0_feed_16 ?_
    refine lv_iload_n hx hb dX0_feed_19 rfl (lv_at hl 2 rfl) ?_
    refine lv_iadd hx hb dX0_feed_20 ?_
    refine lv_bipush (v := 120) hx hb dX0_feed_21 (by decide) ?_
    refine lv_icmp_le (tgt := 32) hx hb dX0_feed_23 (by decide) (fun c_23 => ?_) (fun c_23 => ?_)
    · skip
      have c_23 : t + k ≤ 120 := (nle (a := t + k) (b := 120) (na_add (et) (rfl)) (rfl) (by omega) (by omega)).mp c_23
      have hA : a_feed t (nI k) = .inr (t + k) := by rw [a_feed, if_neg c_6, nI_clamp (by omega), if_neg (by omega)]
      refine lv_iload_n hx hb dX0_feed_32 rfl (lv_at hl 2 rfl) ?_
      refine lv_iconst (v := 1) hx hb dX0_feed_33 (by decide) ?_
      refine lv_isub hx hb dX0_feed_34 ?_
      refine lv_istore_n (lv' := [(3, .int ((nI k) - (1 : Int32))), (0, .ref (L 44)), (1, .int b), (2, .int (nI k))]) hx hb dX0_feed_35 rfl hl (by decide) rfl (fun ls hl => ?_)
      have lp36 : ∀ (fuel : Nat) (j : Nat), (j ≤ k) → j < fuel → ∀ (v3 : Int32), v3 = (nI j - 1) → ∀ (xc36 : cst), xc36 = fdX x b t k (k - j) → ∀ (H : Heap) (locs : List Loc), hw D (cfC D L xc36) A H → va_S A s.heap H locs → ∀ (ls : Array Slot), lv_has ls 4 [(0, .ref (L 44)), (1, .int b), (2, .int (nI k)), (3, .int v3)] → W p l e ({ frames := 1, cells := 0, slots := 0, locals := 22 } : Room) s m ([.ref (L 44), .int b, .int (nI k)] : List Value).toArray below meth c H locs 0 0 (MQ below (nQ D (cfC D L (aCF x b t (nI k) (a_feed t (nI k)))) A (some (.int (aF (a_feed t (nI k)))))) ([.ref (L 44), .int b, .int (nI k)] : List Value).toArray s 0 0 A) (F0 m 36 ls []) := by
        intro fuel
        induction fuel with
        | zero => intro j hj hf; exact absurd hf (Nat.not_lt_zero _)
        | succ fuel ih36 =>
          intro j hj hf36 v3 e3  xc36 exc36 H locs hI hS ls hl
          subst e3
          have htp : xc36.2.1 0 0 = nI (t + (k - j)) := by rw [exc36]; exact fdX_t _ _ _ _ _
          refine lv_iload_n hx hb dX0_feed_36 rfl (lv_at hl 3 rfl) ?_
          refine lv_if_lt (tgt := 75) hx hb dX0_feed_37 (by decide) (fun c_37 => ?_) (fun c_37 => ?_)
          · skip
            have hj0 : j = 0 := (pred_lt (by omega)).mp c_37
            refine lv_aload_n hx hb dX0_feed_75 rfl (lv_at hl 0 rfl) ?_
            refine r_get (C := RX0) (T := TX0) (N := 11) hx hb hts in_X0 hown hK hI (cf_main) rfl 2 (by decide) (hts _ q398) (fun _ h => h) rfl dX0_feed_76 ?_
            exact W.iret hx hb hr (fun t ht _ => ⟨rI (by rw [hA, htp, hj0]; rfl), by rw [ht]; exact hw_eq hI (congrArg (cfC D L) (by rw [hA, exc36, hj0]; exact fdX_e)), hS.F ht⟩) hS.2.2 dX0_feed_79
          · skip
            have hj0 : 0 < j := by have := mt (pred_lt (j := j) (by omega)).mpr c_37; omega
            have hq : nI j - 1 = nI (j - 1) := pred_s hj0
            refine lv_aload_n hx hb dX0_feed_40 rfl (lv_at hl 0 rfl) ?_
            refine r_get (C := RX0) (T := TX0) (N := 11) hx hb hts in_X0 hown hK hI (cf_main) rfl 1 (by decide) (hts _ q397) (fun _ h => h) rfl dX0_feed_41 ?_
            refine r_getN (C := RX2) (T := TX2) (N := 8) hx hb hts in_X2 hown hK hI (cf_reader) rfl 1 (by decide) (nf_12 hK) (fun _ h => h) rfl dX0_feed_44 ?_
            refine lv_aload_n hx hb dX0_feed_47 rfl (lv_at hl 0 rfl) ?_
            refine r_get (C := RX0) (T := TX0) (N := 11) hx hb hts in_X0 hown hK hI (cf_main) rfl 2 (by decide) (hts _ q398) (fun _ h => h) rfl dX0_feed_48 ?_
            refine lv_iload_n hx hb dX0_feed_51 rfl (lv_at hl 1 rfl) ?_
            refine lv_bipush (v := 8) hx hb dX0_feed_52 (by decide) ?_
            refine lv_iload_n hx hb dX0_feed_54 rfl (lv_at hl 3 rfl) ?_
            refine lv_imul hx hb dX0_feed_55 ?_
            refine lv_ishr hx hb dX0_feed_56 ?_
            refine lv_i2b (v := ((b >>> (((8 : Int32) * (nI j - 1)) &&& 31)) : Int32).toInt8.toInt32) hx hb dX0_feed_57 rfl ?_
            obtain ⟨x1, ex1⟩ : ∃ z, z = xr xc36 2 (t + (k - j)) (((b >>> (((8 : Int32) * (nI j - 1)) &&& 31)) : Int32).toInt8.toInt32) := ⟨_, rfl⟩
            refine n_bast (cf' := cfC D L x1) (k := (t + (k - j))) hx hb hK hI hS (cf_tape) (htp) (by omega) (by decide) (pk_vb _) (by rw [ex1]; exact cs_tape) dX0_feed_58 (fun H1 locs1 hI hS => ?_)
            refine lv_aload_n hx hb dX0_feed_59 rfl (lv_at hl 0 rfl) ?_
            refine lv_dup hx hb dX0_feed_60 rfl ?_
            refine r_get (C := RX0) (T := TX0) (N := 11) hx hb hts in_X0 hown hK hI (cf_main) rfl 2 (by decide) (hts _ q398) (fun _ h => h) rfl dX0_feed_61 ?_
            refine lv_iconst (v := 1) hx hb dX0_feed_64 (by decide) ?_
            refine lv_iadd hx hb dX0_feed_65 ?_
            obtain ⟨x2, ex2⟩ : ∃ z, z = xr x1 0 0 ((x1.2.1 0 0) + (1 : Int32)) := ⟨_, rfl⟩
            refine r_put (C := RX0) (T := TX0) (N := 11) (cf' := cfC D L x2) hx hb hts in_X0 tyX0 tyX0_ok nmX0 hown hK hI hS (cf_main) rfl 2 (by decide) (hts _ q398) (fun _ h => h) rfl (ty := .int) (by decide +kernel) rfl rfl (Nat.le_of_ble_eq_true rfl) (by rw [ex2]; exact cs_main rfl) dX0_feed_66 (fun H1 locs1 hI hS => ?_)
            refine lv_iinc (v := ((nI j - 1) + (-1))) (lv' := [(3, .int ((nI j - 1) + (-1))), (0, .ref (L 44)), (1, .int b), (2, .int (nI k))]) hx hb dX0_feed_69 hl (k := 3) rfl (rfl) (by decide) rfl (fun ls hl => ?_)
            refine lv_goto (tgt := 36) hx hb dX0_feed_72 (by decide) ?_
            exact ih36 (j - 1) (by omega) (by omega) ((nI j - 1) + (-1)) (by rw [hq, Int32.sub_eq_add_neg]) x2 (by rw [ex2, ex1, exc36]; rw [show k - (j - 1) = (k - j) + 1 by omega]; exact fdX_s (by omega) hq) _ _ hI hS ls (lv_sub hl [1, 2, 3, 0] rfl)
      exact lp36 (_ + 1) (k) (Nat.le_refl _) (Nat.lt_succ_self _) ((nI k) - (1 : Int32)) (rfl) x (by rw [Nat.sub_self]; exact (fdX_0 et).symm) _ _ hI hS ls (lv_sub hl [1, 2, 3, 0] rfl)
    · skip
      have c_23 : ¬ t + k ≤ 120 := fun z => c_23 ((nle (a := t + k) (b := 120) (na_add (et) (rfl)) (rfl) (by omega) (by omega)).mpr z)
      have hA : a_feed t (nI k) = .inl 1 := by rw [a_feed, if_neg c_6, nI_clamp (by omega), if_pos (by omega)]
      refine lv_aload_n hx hb dX0_feed_26 rfl (lv_at hl 0 rfl) ?_
      refine lv_iconst (v := 1) hx hb dX0_feed_27 (by decide) ?_
      refine c_m (k_V (As := [.int 1]) (rest := []) F (k_X0_finding x 1 (by decide)) (cwV 1 hts (lw_V q457 q459 qs2 q91 q460) rfl rfl rfl (by decide +kernel) ⟨Nat.le_of_ble_eq_true rfl, Nat.le_of_ble_eq_true rfl⟩) hI hK (hw.recv hI hK (cf_main) rfl) rfl hl.1 rfl (Nat.le_of_ble_eq_true rfl) dX0_feed_28 ⟨Nat.le_of_ble_eq_true rfl, Nat.le_of_ble_eq_true rfl⟩) hS (fun H1 locs1 hI hS => ?_)
      obtain ⟨x3, ex3⟩ : ∃ z, z = (fnd x 1) := ⟨_, rfl⟩
      rw [← ex3] at hI
      exact W.iret hx hb hr (fun t ht _ => ⟨rI (by rw [hA]; rfl), by rw [ht]; exact hw_eq hI (congrArg (cfC D L) (by rw [hA, ex3]; rfl)), hS.F ht⟩) hS.2.2 dX0_feed_31
  · skip
    refine lv_aload_n hx hb dX0_feed_9 rfl (lv_at hl 0 rfl) ?_
    refine lv_iconst (v := 0) hx hb dX0_feed_10 (by decide) ?_
    refine c_m (k_V (As := [.int 0]) (rest := []) F (k_X0_finding x 0 (by decide)) (cwV 1 hts (lw_V q457 q459 qs2 q91 q460) rfl rfl rfl (by decide +kernel) ⟨Nat.le_of_ble_eq_true rfl, Nat.le_of_ble_eq_true rfl⟩) hI hK (hw.recv hI hK (cf_main) rfl) rfl hl.1 rfl (Nat.le_of_ble_eq_true rfl) dX0_feed_11 ⟨Nat.le_of_ble_eq_true rfl, Nat.le_of_ble_eq_true rfl⟩) hS (fun H1 locs1 hI hS => ?_)
    obtain ⟨x4, ex4⟩ : ∃ z, z = (fnd x 0) := ⟨_, rfl⟩
    rw [← ex4] at hI
    exact W.iret hx hb hr (fun t ht _ => ⟨rI (by simp [a_feed, aF, c_6]), by rw [ht]; exact hw_eq hI (congrArg (cfC D L) (by rw [ex4]; simp [a_feed, aCF, c_6])), hS.F ht⟩) hS.2.2 dX0_feed_14
theorem k_X13_feed {l : Launch} {D : va_G} {L : Nat → Nat} {A : Nat → Prop} (x : mst) (b n : Int32) (t : Nat) (ht : t ≤ 120) (et : x.2.1 0 1 = nI t) : Met l yX13_feed (ws_ yX13_feed cX13_feed 4 (some .int)) ({ frames := 1, cells := 0, slots := 0, locals := 25 } : Room) (va_Pc [.ref (L 0), .int b, .int n] (pI D (cfM D L x) A)) (nQ D (cfM D L (aMF x b t n (a_feed t n))) A (some (.int (aF (a_feed t n))))) 0 0 A := by
  refine met_I (by decide) rfl (Nat.le_of_ble_eq_true rfl) ?_
  intro p e s m below meth c ls hx hb hr hml hown hts hlocks hl hI hK
  have F : CallFix p m c cX13_feed 4 s _ lw_all RX13 := ⟨hx, hb, hml, hown, hts⟩
  have hl : lv_has ls 4 [(0, .ref (L 0)), (1, .int b), (2, .int n)] := hl
  have hS : va_S A s.heap s.heap [] := va_S.rf
  refine lv_iload_n hx hb dX13_feed_0 rfl (lv_at hl 2 rfl) ?_
  refine lv_i2l (v := (n : Int32).toInt64) hx hb dX13_feed_1 rfl ?_
  refine lv_lconst (v := 1) hx hb dX13_feed_2 (by decide) ?_
  refine lv_ldc2 (v := 4) hx hb hown (hts _ q1492) dX13_feed_3 ?_
  refine c_r (k_S (As := [.long ((n : Int32).toInt64), .long 1, .long 4]) (rest := []) F (k_X13_in n 1 4 ((n : Int32).toInt64 : Int64) (1 : Int64) (4 : Int64) rfl (by decide) (by decide)) (va_cwS 3 hts (lw_S q1227 q1228 q107 q1229) rfl rfl rfl (by decide +kernel) ⟨Nat.le_of_ble_eq_true rfl, Nat.le_of_ble_eq_true rfl⟩) rfl hl.1 rfl (Nat.le_of_ble_eq_true rfl) dX13_feed_6 ⟨Nat.le_of_ble_eq_true rfl, Nat.le_of_ble_eq_true rfl⟩) ?_
  refine lv_if_ne (tgt := 18) hx hb dX13_feed_9 (by decide) (fun c_9 => ?_) (fun c_9 => ?_)
  · skip
    obtain ⟨k, hk1, hk, en⟩ := inI_to1 (a := 1) (b := 4) rfl rfl (by decide) (by decide) c_9
    have en2 : n.toNatClampNeg = k := by rw [en, nI_clamp (by omega)]
    subst en
    refine lv_aload_n hx hb dX13_feed_18 rfl (lv_at hl 0 rfl) ?_
    refine r_get (C := RX13) (T := TX13) (N := 18) hx hb hts in_X13 hown hK hI (mf_main) rfl 7 (by decide) (hts _ q1171) (fun _ h => h) rfl dX13_feed_19 ?_
    refine lv_iload_n hx hb dX13_feed_22 rfl (lv_at hl 2 rfl) ?_
    refine lv_iadd hx hb dX13_feed_23 ?_
    refine lv_bipush (v := 120) hx hb dX13_feed_24 (by decide) ?_
    refine lv_icmp_le (tgt := 35) hx hb dX13_feed_26 (by decide) (fun c_26 => ?_) (fun c_26 => ?_)
    · skip
      have c_26 : t + k ≤ 120 := (nle (a := t + k) (b := 120) (na_add (et) (rfl)) (rfl) (by omega) (by omega)).mp c_26
      have hA : a_feed t (nI k) = .inr (t + k) := by rw [a_feed, if_neg c_9, nI_clamp (by omega), if_neg (by omega)]
      refine lv_iload_n hx hb dX13_feed_35 rfl (lv_at hl 2 rfl) ?_
      refine lv_iconst (v := 1) hx hb dX13_feed_36 (by decide) ?_
      refine lv_isub hx hb dX13_feed_37 ?_
      refine lv_istore_n (lv' := [(3, .int ((nI k) - (1 : Int32))), (0, .ref (L 0)), (1, .int b), (2, .int (nI k))]) hx hb dX13_feed_38 rfl hl (by decide) rfl (fun ls hl => ?_)
      have lp39 : ∀ (fuel : Nat) (j : Nat), (j ≤ k) → j < fuel → ∀ (v3 : Int32), v3 = (nI j - 1) → ∀ (xc39 : mst), xc39 = fdY x b t k (k - j) → ∀ (H : Heap) (locs : List Loc), hw D (cfM D L xc39) A H → va_S A s.heap H locs → ∀ (ls : Array Slot), lv_has ls 4 [(0, .ref (L 0)), (1, .int b), (2, .int (nI k)), (3, .int v3)] → W p l e ({ frames := 1, cells := 0, slots := 0, locals := 25 } : Room) s m ([.ref (L 0), .int b, .int (nI k)] : List Value).toArray below meth c H locs 0 0 (MQ below (nQ D (cfM D L (aMF x b t (nI k) (a_feed t (nI k)))) A (some (.int (aF (a_feed t (nI k)))))) ([.ref (L 0), .int b, .int (nI k)] : List Value).toArray s 0 0 A) (F0 m 39 ls []) := by
        intro fuel
        induction fuel with
        | zero => intro j hj hf; exact absurd hf (Nat.not_lt_zero _)
        | succ fuel ih39 =>
          intro j hj hf39 v3 e3  xc39 exc39 H locs hI hS ls hl
          subst e3
          have htp : xc39.2.1 0 1 = nI (t + (k - j)) := by rw [exc39]; exact fdY_t _ _ _ _ _
          refine lv_iload_n hx hb dX13_feed_39 rfl (lv_at hl 3 rfl) ?_
          refine lv_if_lt (tgt := 75) hx hb dX13_feed_40 (by decide) (fun c_40 => ?_) (fun c_40 => ?_)
          · skip
            have hj0 : j = 0 := (pred_lt (by omega)).mp c_40
            refine lv_aload_n hx hb dX13_feed_75 rfl (lv_at hl 0 rfl) ?_
            refine r_get (C := RX13) (T := TX13) (N := 18) hx hb hts in_X13 hown hK hI (mf_main) rfl 7 (by decide) (hts _ q1171) (fun _ h => h) rfl dX13_feed_76 ?_
            exact W.iret hx hb hr (fun t ht _ => ⟨rI (by rw [hA, htp, hj0]; rfl), by rw [ht]; exact hw_eq hI (congrArg (cfM D L) (by rw [hA, exc39, hj0]; exact fdY_e)), hS.F ht⟩) hS.2.2 dX13_feed_79
          · skip
            have hj0 : 0 < j := by have := mt (pred_lt (j := j) (by omega)).mpr c_40; omega
            have hq : nI j - 1 = nI (j - 1) := pred_s hj0
            refine lv_aload_n hx hb dX13_feed_43 rfl (lv_at hl 0 rfl) ?_
            refine r_get (C := RX13) (T := TX13) (N := 18) hx hb hts in_X13 hown hK hI (mf_main) rfl 6 (by decide) (hts _ q1170) (fun _ h => h) rfl dX13_feed_44 ?_
            refine lv_aload_n hx hb dX13_feed_47 rfl (lv_at hl 0 rfl) ?_
            refine r_get (C := RX13) (T := TX13) (N := 18) hx hb hts in_X13 hown hK hI (mf_main) rfl 7 (by decide) (hts _ q1171) (fun _ h => h) rfl dX13_feed_48 ?_
            refine lv_iload_n hx hb dX13_feed_51 rfl (lv_at hl 1 rfl) ?_
            refine lv_bipush (v := 8) hx hb dX13_feed_52 (by decide) ?_
            refine lv_iload_n hx hb dX13_feed_54 rfl (lv_at hl 3 rfl) ?_
            refine lv_imul hx hb dX13_feed_55 ?_
            refine lv_ishr hx hb dX13_feed_56 ?_
            refine lv_i2b (v := ((b >>> (((8 : Int32) * (nI j - 1)) &&& 31)) : Int32).toInt8.toInt32) hx hb dX13_feed_57 rfl ?_
            obtain ⟨x1, ex1⟩ : ∃ z, z = yr xc39 2 (t + (k - j)) (((b >>> (((8 : Int32) * (nI j - 1)) &&& 31)) : Int32).toInt8.toInt32) := ⟨_, rfl⟩
            refine n_bast (cf' := cfM D L x1) (k := (t + (k - j))) hx hb hK hI hS (mf_tape) (htp) (by omega) (by decide) (pk_vb _) (by rw [ex1]; exact ms_r (r := 2) (by decide) (by decide) mf_tape) dX13_feed_58 (fun H1 locs1 hI hS => ?_)
            refine lv_aload_n hx hb dX13_feed_59 rfl (lv_at hl 0 rfl) ?_
            refine lv_dup hx hb dX13_feed_60 rfl ?_
            refine r_get (C := RX13) (T := TX13) (N := 18) hx hb hts in_X13 hown hK hI (mf_main) rfl 7 (by decide) (hts _ q1171) (fun _ h => h) rfl dX13_feed_61 ?_
            refine lv_iconst (v := 1) hx hb dX13_feed_64 (by decide) ?_
            refine lv_iadd hx hb dX13_feed_65 ?_
            obtain ⟨x2, ex2⟩ : ∃ z, z = yr x1 0 1 ((x1.2.1 0 1) + (1 : Int32)) := ⟨_, rfl⟩
            refine r_put (C := RX13) (T := TX13) (N := 18) (cf' := cfM D L x2) hx hb hts in_X13 tyX13 tyX13_ok nmX13 hown hK hI hS (mf_main) rfl 7 (by decide) (hts _ q1171) (fun _ h => h) rfl (ty := .int) (by decide +kernel) rfl rfl (Nat.le_of_ble_eq_true rfl) (by rw [ex2]; exact ms_main rfl (fun _ => rfl) (fun _ h => u2_ne h)) dX13_feed_66 (fun H1 locs1 hI hS => ?_)
            refine lv_iinc (v := ((nI j - 1) + (-1))) (lv' := [(3, .int ((nI j - 1) + (-1))), (0, .ref (L 0)), (1, .int b), (2, .int (nI k))]) hx hb dX13_feed_69 hl (k := 3) rfl (rfl) (by decide) rfl (fun ls hl => ?_)
            refine lv_goto (tgt := 39) hx hb dX13_feed_72 (by decide) ?_
            exact ih39 (j - 1) (by omega) (by omega) ((nI j - 1) + (-1)) (by rw [hq, Int32.sub_eq_add_neg]) x2 (by rw [ex2, ex1, exc39]; rw [show k - (j - 1) = (k - j) + 1 by omega]; exact fdY_s (by omega) hq) _ _ hI hS ls (lv_sub hl [1, 2, 3, 0] rfl)
      exact lp39 (_ + 1) (k) (Nat.le_refl _) (Nat.lt_succ_self _) ((nI k) - (1 : Int32)) (rfl) x (by rw [Nat.sub_self]; exact (fdY_0 et).symm) _ _ hI hS ls (lv_sub hl [1, 2, 3, 0] rfl)
    · skip
      have c_26 : ¬ t + k ≤ 120 := fun z => c_26 ((nle (a := t + k) (b := 120) (na_add (et) (rfl)) (rfl) (by omega) (by omega)).mpr z)
      have hA : a_feed t (nI k) = .inl 1 := by rw [a_feed, if_neg c_9, nI_clamp (by omega), if_pos (by omega)]
      refine lv_aload_n hx hb dX13_feed_29 rfl (lv_at hl 0 rfl) ?_
      refine lv_iconst (v := 1) hx hb dX13_feed_30 (by decide) ?_
      refine c_m (k_V (As := [.int 1]) (rest := []) F (k_X13_finds x 1 (by decide)) (cwV 1 hts (lw_V q1238 q1240 qs47 q107 q1241) rfl rfl rfl (by decide +kernel) ⟨Nat.le_of_ble_eq_true rfl, Nat.le_of_ble_eq_true rfl⟩) hI hK (hw.recv hI hK (mf_main) rfl) rfl hl.1 rfl (Nat.le_of_ble_eq_true rfl) dX13_feed_31 ⟨Nat.le_of_ble_eq_true rfl, Nat.le_of_ble_eq_true rfl⟩) hS (fun H1 locs1 hI hS => ?_)
      obtain ⟨x3, ex3⟩ : ∃ z, z = (fndM x 1) := ⟨_, rfl⟩
      rw [← ex3] at hI
      exact W.iret hx hb hr (fun t ht _ => ⟨rI (by rw [hA]; rfl), by rw [ht]; exact hw_eq hI (congrArg (cfM D L) (by rw [hA, ex3]; rfl)), hS.F ht⟩) hS.2.2 dX13_feed_34
  · skip
    refine lv_aload_n hx hb dX13_feed_12 rfl (lv_at hl 0 rfl) ?_
    refine lv_iconst (v := 0) hx hb dX13_feed_13 (by decide) ?_
    refine c_m (k_V (As := [.int 0]) (rest := []) F (k_X13_finds x 0 (by decide)) (cwV 1 hts (lw_V q1238 q1240 qs47 q107 q1241) rfl rfl rfl (by decide +kernel) ⟨Nat.le_of_ble_eq_true rfl, Nat.le_of_ble_eq_true rfl⟩) hI hK (hw.recv hI hK (mf_main) rfl) rfl hl.1 rfl (Nat.le_of_ble_eq_true rfl) dX13_feed_14 ⟨Nat.le_of_ble_eq_true rfl, Nat.le_of_ble_eq_true rfl⟩) hS (fun H1 locs1 hI hS => ?_)
    obtain ⟨x4, ex4⟩ : ∃ z, z = (fndM x 0) := ⟨_, rfl⟩
    rw [← ex4] at hI
    exact W.iret hx hb hr (fun t ht _ => ⟨rI (by simp [a_feed, aF, c_9]), by rw [ht]; exact hw_eq hI (congrArg (cfM D L) (by rw [ex4]; simp [a_feed, aMF, c_9])), hS.F ht⟩) hS.2.2 dX13_feed_17
