/-! LeftGloves: talk -/
theorem isN_dr (z : Int32) : isN (drI z) (2 ^ 24) := by
  refine ⟨(z.toUInt32 >>> 8).toNat, ?_, ?_⟩
  · rw [UInt32.toNat_shiftRight]
    have := z.toUInt32.toNat_lt
    show z.toUInt32.toNat >>> 8 < 2 ^ 24
    rw [Nat.shiftRight_eq_div_pow]
    omega
  · show (z.toUInt32 >>> 8).toInt32 = _
    apply Int32.toBitVec_inj.mp
    apply BitVec.eq_of_toNat_eq
    simp [nI]
    have hz := z.toUInt32.toNat_lt
    show z.toUInt32.toNat >>> 8 = _
    rw [Nat.mod_eq_of_lt]
    rw [Nat.shiftRight_eq_div_pow]
    omega
theorem isN_rem {v : Int32} {b d : Nat} (h : isN v b) (hb : b ≤ 2 ^ 31) (hd : 0 < d) (hd2 : d < 2 ^ 31) {D : Int32} (hD : D = nI d) : isN (v - v / D * D) d := by
  obtain ⟨j, hj, rfl⟩ := h
  exact ⟨j % d, Nat.mod_lt _ hd, by rw [hD]; exact pk_rem (by omega) hd hd2⟩
theorem sOk_sy {a b c : Int32} (ha : isN a 6) (hb : isN b 16) (hc : isN c 10) : sOk (syI a b c) := by
  obtain ⟨i, hi, rfl⟩ := ha
  obtain ⟨j, hj, rfl⟩ := hb
  obtain ⟨k, hk, rfl⟩ := hc
  refine ⟨i, j, k, hi, hj, hk, ?_⟩
  unfold syI
  rw [show (1000 : Int32) = nI 1000 from rfl, show (10 : Int32) = nI 10 from rfl]
  simp only [pk_mul, nI_add]
def dr1 (f : wd) : wd := u2 f 1 3 (dzI (f 1 3))
def dr1I (f : wd) (d : Int32) : Int32 := drI (dzI (f 1 3)) - drI (dzI (f 1 3)) / d * d
def tk1 (f : wd) : wd := psw (u2 (dr1 (dr1 (dr1 f))) 0 ((f 1 2).toNatClampNeg % 6) (syI (dr1I f 6) (dr1I (dr1 f) 16) (dr1I (dr1 (dr1 f)) 10)))
def tkn (f : wd) (n : Nat) : wd := itr (fun _ g => tk1 g) f n
theorem wOk_dr {f : wd} (h : wOk f) : wOk (dr1 f) := by
  refine ⟨?_, fun j hj => ?_, fun i hi => ?_, ?_, fun j hj => ?_⟩
  · rw [dr1, u2_at, if_neg (by decide)]; exact h.1
  · have := h.2.1 j hj
    unfold gOk at this ⊢
    simpa [u2_ne, dr1] using this
  · rw [dr1, u2_ne (by decide)]; exact h.2.2.1 i hi
  · rw [dr1, u2_at, if_neg (by decide)]; exact h.2.2.2.1
  · rw [dr1, u2_ne (by decide)]; exact h.2.2.2.2 j hj
theorem isN_dr1 (f : wd) {d : Nat} (hd : 0 < d) (hd2 : d < 2 ^ 31) {D : Int32} (hD : D = nI d) : isN (dr1I f D) d := isN_rem (isN_dr _) (by decide) hd hd2 hD
theorem wOk_l {f : wd} (h : wOk f) {i : Nat} {v : Int32} (hv : sOk v) : wOk (u2 f 0 i v) := by
  refine ⟨?_, fun j hj => ?_, fun q hq => ?_, ?_, fun j hj => ?_⟩
  · rw [u2_ne (by decide)]; exact h.1
  · have := h.2.1 j hj
    unfold gOk at this ⊢
    simpa [u2_ne] using this
  · rw [u2_at]; split
    · exact hv
    · exact h.2.2.1 q hq
  · rw [u2_ne (by decide)]; exact h.2.2.2.1
  · rw [u2_ne (by decide)]; exact h.2.2.2.2 j hj
theorem tk1_day (f : wd) : tk1 f 1 2 = f 1 2 + 1 := by
  unfold tk1
  rw [psw_day, u2_ne (by decide)]
  simp [dr1, u2_at]
theorem wOk_tk1 {f : wd} (h : wOk f) (hd : isN (f 1 2) 999999) : wOk (tk1 f) := by
  unfold tk1
  refine wOk_psw (wOk_l (wOk_dr (wOk_dr (wOk_dr h))) (sOk_sy (isN_dr1 _ (by decide) (by decide) rfl) (isN_dr1 _ (by decide) (by decide) rfl) (isN_dr1 _ (by decide) (by decide) rfl))) ?_
  rw [u2_ne (by decide)]
  simpa [dr1, u2_at] using hd
theorem tkn_day (f : wd) {δ : Nat} (h : f 1 2 = nI δ) (n : Nat) : tkn f n 1 2 = nI (δ + n) := by
  induction n with
  | zero => exact h
  | succ n ih =>
    show tk1 (tkn f n) 1 2 = _
    rw [tk1_day, ih, nI_1, Nat.add_assoc]
theorem wOk_tkn {f : wd} (h : wOk f) (hd : isN (f 1 2) 10000) : ∀ n, n ≤ 1000 → wOk (tkn f n) := by
  intro n
  obtain ⟨δ, hδ, e⟩ := hd
  induction n with
  | zero => intro _; exact h
  | succ n ih =>
    intro hn
    show wOk (tk1 (tkn f n))
    exact wOk_tk1 (ih (by omega)) ⟨δ + n, by omega, tkn_day f e n⟩
def a_talk (f : wd) (n : Int32) : act := if inI n 1 20 = 0 then .inl 0 else if ltI f n = 0 then .inr (knI (tkn f n.toNatClampNeg) 3 (allI (tkn f n.toNatClampNeg)), tkn f n.toNatClampNeg) else .inl 4
theorem k_X0_talked {l : Launch} {D : va_G} {L : Nat → Nat} {A : Nat → Prop} (x : cst) (hO : wOk (x.1 0)) (hd : isN (x.1 0 1 2) 10000) (n : Nat) (hn : n ≤ 1000) : Met l yX0_talked (ws_ yX0_talked cX0_talked 5 (some .int)) ({ frames := 6, cells := 0, slots := 0, locals := 130 } : Room) (va_Pc [.ref (L 44), .int (nI n)] (pI D (cfC D L x) A)) (nQ D (cfC D L (xs x 0 (tkn (x.1 0) n))) A (some (.int (knI (tkn (x.1 0) n) 3 (allI (tkn (x.1 0) n)))))) 0 0 A := by
  refine met_I (by decide) rfl (Nat.le_of_ble_eq_true rfl) ?_
  intro p e s m below meth c ls hx hb hr hml hown hts hlocks hl hI hK
  have F : CallFix p m c cX0_talked 5 s _ lw_all RX0 := ⟨hx, hb, hml, hown, hts⟩
  have hl : lv_has ls 5 [(0, .ref (L 44)), (1, .int (nI n))] := hl
  have hS : va_S A s.heap s.heap [] := va_S.rf
  refine lv_iconst (v := 0) hx hb dX0_talked_0 (by decide) ?_
  refine lv_istore_n (lv' := [(2, .int 0), (0, .ref (L 44)), (1, .int (nI n))]) hx hb dX0_talked_1 rfl hl (by decide) rfl (fun ls hl => ?_)
  have lp2 : ∀ (fuel : Nat) (i : Nat), (i ≤ n) → n - i < fuel → ∀ (v2 : Int32), v2 = nI i → ∀ (xc2 : cst), xc2 = xs x 0 (tkn (x.1 0) i) → ∀ (H : Heap) (locs : List Loc), hw D (cfC D L xc2) A H → va_S A s.heap H locs → ∀ (ls : Array Slot), lv_has ls 5 [(0, .ref (L 44)), (1, .int (nI n)), (2, .int v2)] → W p l e ({ frames := 6, cells := 0, slots := 0, locals := 130 } : Room) s m ([.ref (L 44), .int (nI n)] : List Value).toArray below meth c H locs 0 0 (MQ below (nQ D (cfC D L (xs x 0 (tkn (x.1 0) n))) A (some (.int (knI (tkn (x.1 0) n) 3 (allI (tkn (x.1 0) n)))))) ([.ref (L 44), .int (nI n)] : List Value).toArray s 0 0 A) (F0 m 2 ls []) := by
    intro fuel
    induction fuel with
    | zero => intro i hi hf; exact absurd hf (Nat.not_lt_zero _)
    | succ fuel ih2 =>
      intro i hi hf2 v2 e2  xc2 exc2 H locs hI hS ls hl
      subst e2
      have hO_xc2 : wOk (xc2.1 0) := by rw [exc2, xs_at]; exact wOk_tkn hO hd i (by omega)
      obtain ⟨δ, hδ, hdd⟩ := hO_xc2.2.2.2.1
      refine lv_iload_n hx hb dX0_talked_2 rfl (lv_at hl 2 rfl) ?_
      refine lv_iload_n hx hb dX0_talked_3 rfl (lv_at hl 1 rfl) ?_
      refine lv_icmp_ge (tgt := 74) hx hb dX0_talked_4 (by decide) (fun c_4 => ?_) (fun c_4 => ?_)
      · skip
        have c_4 : n ≤ i := (nle (a := n) (b := i) (rfl) (rfl) (by omega) (by omega)).mp c_4
        refine lv_aload_n hx hb dX0_talked_74 rfl (lv_at hl 0 rfl) ?_
        refine r_get (C := RX0) (T := TX0) (N := 11) hx hb hts in_X0 hown hK hI (cf_main) rfl 3 (by decide) (hts _ q401) (fun _ h => h) rfl dX0_talked_75 ?_
        refine lv_iconst (v := 3) hx hb dX0_talked_78 (by decide) ?_
        refine lv_aload_n hx hb dX0_talked_79 rfl (lv_at hl 0 rfl) ?_
        refine r_get (C := RX0) (T := TX0) (N := 11) hx hb hts in_X0 hown hK hI (cf_main) rfl 3 (by decide) (hts _ q401) (fun _ h => h) rfl dX0_talked_80 ?_
        refine c_r (k_V (As := []) (rest := [.int 3, .ref (L (11 * 0))]) F (k_X4_all xc2 0 (by decide) (hO_xc2)) (cwV 0 hts (lw_V q747 q748 q749 q98 q750) rfl rfl rfl (by decide +kernel) ⟨Nat.le_of_ble_eq_true rfl, Nat.le_of_ble_eq_true rfl⟩) hI hK (hw.recv hI hK (cf_W (w := 0) (by decide)) rfl) rfl hl.1 rfl (Nat.le_of_ble_eq_true rfl) dX0_talked_83 ⟨Nat.le_of_ble_eq_true rfl, Nat.le_of_ble_eq_true rfl⟩) ?_
        refine c_r (k_V (As := [.int 3, .int (allI (xc2.1 0))]) (rest := []) F (k_X4_known xc2 0 (by decide) (hO_xc2) 3 (allI (xc2.1 0)) (by decide)) (cwV 2 hts (lw_V q518 q519 q520 q98 q521) rfl rfl rfl (by decide +kernel) ⟨Nat.le_of_ble_eq_true rfl, Nat.le_of_ble_eq_true rfl⟩) hI hK (hw.recv hI hK (cf_W (w := 0) (by decide)) rfl) rfl hl.1 rfl (Nat.le_of_ble_eq_true rfl) dX0_talked_86 ⟨Nat.le_of_ble_eq_true rfl, Nat.le_of_ble_eq_true rfl⟩) ?_
        exact W.iret hx hb hr (fun t ht _ => ⟨rI (by rw [exc2, xs_at, show i = n by omega]), by rw [ht]; exact hw_eq hI (congrArg (cfC D L) (by rw [exc2, show i = n by omega])), hS.F ht⟩) hS.2.2 dX0_talked_89
      · skip
        have c_4 : ¬ n ≤ i := fun z => c_4 ((nle (a := n) (b := i) (rfl) (rfl) (by omega) (by omega)).mpr z)
        refine lv_aload_n hx hb dX0_talked_7 rfl (lv_at hl 0 rfl) ?_
        refine r_get (C := RX0) (T := TX0) (N := 11) hx hb hts in_X0 hown hK hI (cf_main) rfl 3 (by decide) (hts _ q401) (fun _ h => h) rfl dX0_talked_8 ?_
        refine c_m (k_V (As := []) (rest := []) F (k_X4_draw xc2 0 (by decide)) (cwV 0 hts (lw_V q918 q919 q920 q98 q921) rfl rfl rfl (by decide +kernel) ⟨Nat.le_of_ble_eq_true rfl, Nat.le_of_ble_eq_true rfl⟩) hI hK (hw.recv hI hK (cf_W (w := 0) (by decide)) rfl) rfl hl.1 rfl (Nat.le_of_ble_eq_true rfl) dX0_talked_11 ⟨Nat.le_of_ble_eq_true rfl, Nat.le_of_ble_eq_true rfl⟩) hS (fun H1 locs1 hI hS => ?_)
        obtain ⟨x1, ex1⟩ : ∃ z, z = xs xc2 0 (u2 (xc2.1 0) 1 3 (dzI ((xc2.1 0) 1 3))) := ⟨_, rfl⟩
        rw [← ex1] at hI
        refine lv_bipush (v := 6) hx hb dX0_talked_14 (by decide) ?_
        refine lv_irem hx hb dX0_talked_16 (by decide) ?_
        refine lv_istore_n (lv' := [(3, .int ((drI (dzI ((xc2.1 0) 1 3))) - (drI (dzI ((xc2.1 0) 1 3))) / (6 : Int32) * (6 : Int32))), (0, .ref (L 44)), (1, .int (nI n)), (2, .int (nI i))]) hx hb dX0_talked_17 rfl hl (by decide) rfl (fun ls hl => ?_)
        refine lv_aload_n hx hb dX0_talked_18 rfl (lv_at hl 1 rfl) ?_
        refine r_get (C := RX0) (T := TX0) (N := 11) hx hb hts in_X0 hown hK hI (cf_main) rfl 3 (by decide) (hts _ q401) (fun _ h => h) rfl dX0_talked_19 ?_
        refine c_m (k_V (As := []) (rest := []) F (k_X4_draw x1 0 (by decide)) (cwV 0 hts (lw_V q918 q919 q920 q98 q921) rfl rfl rfl (by decide +kernel) ⟨Nat.le_of_ble_eq_true rfl, Nat.le_of_ble_eq_true rfl⟩) hI hK (hw.recv hI hK (cf_W (w := 0) (by decide)) rfl) rfl hl.1 rfl (Nat.le_of_ble_eq_true rfl) dX0_talked_22 ⟨Nat.le_of_ble_eq_true rfl, Nat.le_of_ble_eq_true rfl⟩) hS (fun H1 locs1 hI hS => ?_)
        obtain ⟨x2, ex2⟩ : ∃ z, z = xs x1 0 (u2 (x1.1 0) 1 3 (dzI ((x1.1 0) 1 3))) := ⟨_, rfl⟩
        rw [← ex2] at hI
        refine lv_bipush (v := 16) hx hb dX0_talked_25 (by decide) ?_
        refine lv_irem hx hb dX0_talked_27 (by decide) ?_
        refine lv_istore (lv' := [(4, .int ((drI (dzI ((x1.1 0) 1 3))) - (drI (dzI ((x1.1 0) 1 3))) / (16 : Int32) * (16 : Int32))), (3, .int ((drI (dzI ((xc2.1 0) 1 3))) - (drI (dzI ((xc2.1 0) 1 3))) / (6 : Int32) * (6 : Int32))), (0, .ref (L 44)), (1, .int (nI n)), (2, .int (nI i))]) hx hb dX0_talked_28 hl (by decide) rfl (fun ls hl => ?_)
        refine lv_aload_n hx hb dX0_talked_30 rfl (lv_at hl 2 rfl) ?_
        refine r_get (C := RX0) (T := TX0) (N := 11) hx hb hts in_X0 hown hK hI (cf_main) rfl 3 (by decide) (hts _ q401) (fun _ h => h) rfl dX0_talked_31 ?_
        refine r_getN (C := RX4) (T := TX4) (N := 7) hx hb hts in_X4 hown hK hI (cf_W (w := 0) (by decide)) rfl 0 (by decide) (nf_2 hK) (fun _ h => h) rfl dX0_talked_34 ?_
        have hdy : x2.1 0 1 2 = nI δ := by rw [← hdd]; simp [ex2, ex1, exc2, xs_at, u2_at]
        refine lv_aload_n hx hb dX0_talked_37 rfl (lv_at hl 2 rfl) ?_
        refine r_get (C := RX0) (T := TX0) (N := 11) hx hb hts in_X0 hown hK hI (cf_main) rfl 3 (by decide) (hts _ q401) (fun _ h => h) rfl dX0_talked_38 ?_
        refine r_getN (C := RX4) (T := TX4) (N := 7) hx hb hts in_X4 hown hK hI (cf_W (w := 0) (by decide)) rfl 4 (by decide) (nf_9 hK) (fun _ h => h) rfl dX0_talked_41 ?_
        refine lv_bipush (v := 6) hx hb dX0_talked_44 (by decide) ?_
        refine lv_irem hx hb dX0_talked_46 (by decide) ?_
        refine lv_iload_n hx hb dX0_talked_47 rfl (lv_at hl 1 rfl) ?_
        refine lv_iload hx hb dX0_talked_48 (lv_at hl 0 rfl) ?_
        refine lv_aload_n hx hb dX0_talked_50 rfl (lv_at hl 2 rfl) ?_
        refine r_get (C := RX0) (T := TX0) (N := 11) hx hb hts in_X0 hown hK hI (cf_main) rfl 3 (by decide) (hts _ q401) (fun _ h => h) rfl dX0_talked_51 ?_
        refine c_m (k_V (As := []) (rest := [.int ((drI (dzI ((x1.1 0) 1 3))) - (drI (dzI ((x1.1 0) 1 3))) / (16 : Int32) * (16 : Int32)), .int ((drI (dzI ((xc2.1 0) 1 3))) - (drI (dzI ((xc2.1 0) 1 3))) / (6 : Int32) * (6 : Int32)), .int ((x2.1 0 1 2) - (x2.1 0 1 2) / (6 : Int32) * (6 : Int32)), .ref (L (11 * 0 + 1))]) F (k_X4_draw x2 0 (by decide)) (cwV 0 hts (lw_V q918 q919 q920 q98 q921) rfl rfl rfl (by decide +kernel) ⟨Nat.le_of_ble_eq_true rfl, Nat.le_of_ble_eq_true rfl⟩) hI hK (hw.recv hI hK (cf_W (w := 0) (by decide)) rfl) rfl hl.1 rfl (Nat.le_of_ble_eq_true rfl) dX0_talked_54 ⟨Nat.le_of_ble_eq_true rfl, Nat.le_of_ble_eq_true rfl⟩) hS (fun H1 locs1 hI hS => ?_)
        obtain ⟨x3, ex3⟩ : ∃ z, z = xs x2 0 (u2 (x2.1 0) 1 3 (dzI ((x2.1 0) 1 3))) := ⟨_, rfl⟩
        rw [← ex3] at hI
        refine lv_bipush (v := 10) hx hb dX0_talked_57 (by decide) ?_
        refine lv_irem hx hb dX0_talked_59 (by decide) ?_
        refine c_r (k_S (As := [.int ((drI (dzI ((xc2.1 0) 1 3))) - (drI (dzI ((xc2.1 0) 1 3))) / (6 : Int32) * (6 : Int32)), .int ((drI (dzI ((x1.1 0) 1 3))) - (drI (dzI ((x1.1 0) 1 3))) / (16 : Int32) * (16 : Int32)), .int ((drI (dzI ((x2.1 0) 1 3))) - (drI (dzI ((x2.1 0) 1 3))) / (10 : Int32) * (10 : Int32))]) (rest := [.int ((x2.1 0 1 2) - (x2.1 0 1 2) / (6 : Int32) * (6 : Int32)), .ref (L (11 * 0 + 1))]) F (k_X0_saying ((drI (dzI ((xc2.1 0) 1 3))) - (drI (dzI ((xc2.1 0) 1 3))) / (6 : Int32) * (6 : Int32)) ((drI (dzI ((x1.1 0) 1 3))) - (drI (dzI ((x1.1 0) 1 3))) / (16 : Int32) * (16 : Int32)) ((drI (dzI ((x2.1 0) 1 3))) - (drI (dzI ((x2.1 0) 1 3))) / (10 : Int32) * (10 : Int32))) (va_cwS 3 hts (lw_S q923 q221 q91 q222) rfl rfl rfl (by decide +kernel) ⟨Nat.le_of_ble_eq_true rfl, Nat.le_of_ble_eq_true rfl⟩) rfl hl.1 rfl (Nat.le_of_ble_eq_true rfl) dX0_talked_60 ⟨Nat.le_of_ble_eq_true rfl, Nat.le_of_ble_eq_true rfl⟩) ?_
        obtain ⟨x4, ex4⟩ : ∃ z, z = xs x3 0 (u2 (x3.1 0) 0 (δ % 6) (syI ((drI (dzI ((xc2.1 0) 1 3))) - (drI (dzI ((xc2.1 0) 1 3))) / (6 : Int32) * (6 : Int32)) ((drI (dzI ((x1.1 0) 1 3))) - (drI (dzI ((x1.1 0) 1 3))) / (16 : Int32) * (16 : Int32)) ((drI (dzI ((x2.1 0) 1 3))) - (drI (dzI ((x2.1 0) 1 3))) / (10 : Int32) * (10 : Int32)))) := ⟨_, rfl⟩
        refine n_iast (cf' := cfC D L x4) (k := (δ % 6)) hx hb hK hI hS (cf_list (w := 0) (by decide)) (by rw [hdy]; exact pk_rem (d := 6) (by omega) (by decide) (by decide)) (by omega) (by decide) (by rw [ex4]; exact cs_list (w := 0) (by decide)) dX0_talked_63 (fun H1 locs1 hI hS => ?_)
        have hx4 : x4 = xs xc2 0 (u2 (dr1 (dr1 (dr1 (xc2.1 0)))) 0 ((xc2.1 0 1 2).toNatClampNeg % 6) (syI (dr1I (xc2.1 0) 6) (dr1I (dr1 (xc2.1 0)) 16) (dr1I (dr1 (dr1 (xc2.1 0))) 10))) := by rw [hdd, nI_clamp (by omega)]; simp only [ex4, ex3, ex2, ex1, exc2, xs_at, xs_xs, dr1, dr1I]
        have hO_x4 : wOk (x4.1 0) := by rw [hx4, xs_at]; exact wOk_l (wOk_dr (wOk_dr (wOk_dr hO_xc2))) (sOk_sy (isN_dr1 _ (by decide) (by decide) rfl) (isN_dr1 _ (by decide) (by decide) rfl) (isN_dr1 _ (by decide) (by decide) rfl))
        refine lv_aload_n hx hb dX0_talked_64 rfl (lv_at hl 2 rfl) ?_
        refine c_m (k_V (As := []) (rest := []) F (k_X0_passes_2 x4 (hO_x4)) (cwV 0 hts (lw_V q713 q715 qs9 q91 q716) rfl rfl rfl (by decide +kernel) ⟨Nat.le_of_ble_eq_true rfl, Nat.le_of_ble_eq_true rfl⟩) hI hK (hw.recv hI hK (cf_main) rfl) rfl hl.1 rfl (Nat.le_of_ble_eq_true rfl) dX0_talked_65 ⟨Nat.le_of_ble_eq_true rfl, Nat.le_of_ble_eq_true rfl⟩) hS (fun H1 locs1 hI hS => ?_)
        obtain ⟨x5, ex5⟩ : ∃ z, z = xs x4 0 (psw (x4.1 0)) := ⟨_, rfl⟩
        rw [← ex5] at hI
        refine lv_iinc (v := (nI (i + 1))) (lv' := [(2, .int (nI (i + 1))), (4, .int ((drI (dzI ((x1.1 0) 1 3))) - (drI (dzI ((x1.1 0) 1 3))) / (16 : Int32) * (16 : Int32))), (3, .int ((drI (dzI ((xc2.1 0) 1 3))) - (drI (dzI ((xc2.1 0) 1 3))) / (6 : Int32) * (6 : Int32))), (0, .ref (L 44)), (1, .int (nI n))]) hx hb dX0_talked_68 hl (k := 4) rfl (nI_1 _) (by decide) rfl (fun ls hl => ?_)
        refine lv_goto (tgt := 2) hx hb dX0_talked_71 (by decide) ?_
        exact ih2 (i + 1) (by omega) (by omega) (nI (i + 1)) (rfl) x5 (by rw [ex5, hx4, exc2]; simp only [xs_at, xs_xs]; rfl) _ _ hI hS ls (lv_sub hl [3, 4, 0] rfl)
  exact lp2 (_ + 1) (0) (Nat.zero_le _) (Nat.lt_succ_self _) 0 (rfl) x ((xs_self _ _).symm) _ _ hI hS ls (lv_sub hl [1, 2, 0] rfl)
theorem k_X0_talk {l : Launch} {D : va_G} {L : Nat → Nat} {A : Nat → Prop} (x : cst) (hO : wOk (x.1 0)) (hd : isN (x.1 0 1 2) 10000) (n : Int32) : Met l yX0_talk (ws_ yX0_talk cX0_talk 2 (some .int)) ({ frames := 7, cells := 0, slots := 0, locals := 154 } : Room) (va_Pc [.ref (L 44), .int n] (pI D (cfC D L x) A)) (nQ D (cfC D L (aC x (a_talk (x.1 0) n))) A (some (.int (aR (a_talk (x.1 0) n))))) 0 0 A := by
  refine met_I (by decide) rfl (Nat.le_of_ble_eq_true rfl) ?_
  intro p e s m below meth c ls hx hb hr hml hown hts hlocks hl hI hK
  have F : CallFix p m c cX0_talk 2 s _ lw_all RX0 := ⟨hx, hb, hml, hown, hts⟩
  have hl : lv_has ls 2 [(0, .ref (L 44)), (1, .int n)] := hl
  have hS : va_S A s.heap s.heap [] := va_S.rf
  refine lv_iload_n hx hb dX0_talk_0 rfl (lv_at hl 1 rfl) ?_
  refine lv_iconst (v := 1) hx hb dX0_talk_1 (by decide) ?_
  refine lv_bipush (v := 20) hx hb dX0_talk_2 (by decide) ?_
  refine c_r (k_S (As := [.int n, .int 1, .int 20]) (rest := []) F (k_X0_in n 1 20) (va_cwS 3 hts (lw_S q439 q440 q91 q441) rfl rfl rfl (by decide +kernel) ⟨Nat.le_of_ble_eq_true rfl, Nat.le_of_ble_eq_true rfl⟩) rfl hl.1 rfl (Nat.le_of_ble_eq_true rfl) dX0_talk_4 ⟨Nat.le_of_ble_eq_true rfl, Nat.le_of_ble_eq_true rfl⟩) ?_
  refine lv_if_ne (tgt := 16) hx hb dX0_talk_7 (by decide) (fun c_7 => ?_) (fun c_7 => ?_)
  · skip
    obtain ⟨k, hk1, hk6, en⟩ := inI_to1 (a := 1) (b := 20) rfl rfl (by decide) (by decide) c_7
    have en2 : n.toNatClampNeg = k := by rw [en, nI_clamp (by omega)]
    subst en
    refine lv_aload_n hx hb dX0_talk_16 rfl (lv_at hl 0 rfl) ?_
    refine r_get (C := RX0) (T := TX0) (N := 11) hx hb hts in_X0 hown hK hI (cf_main) rfl 3 (by decide) (hts _ q401) (fun _ h => h) rfl dX0_talk_17 ?_
    refine lv_iload_n hx hb dX0_talk_20 rfl (lv_at hl 1 rfl) ?_
    refine c_r (k_V (As := [.int (nI k)]) (rest := []) F (k_X4_isLate x 0 (by decide) (hO) (nI k)) (cwV 1 hts (lw_V q700 q701 q702 q98 q703) rfl rfl rfl (by decide +kernel) ⟨Nat.le_of_ble_eq_true rfl, Nat.le_of_ble_eq_true rfl⟩) hI hK (hw.recv hI hK (cf_W (w := 0) (by decide)) rfl) rfl hl.1 rfl (Nat.le_of_ble_eq_true rfl) dX0_talk_21 ⟨Nat.le_of_ble_eq_true rfl, Nat.le_of_ble_eq_true rfl⟩) ?_
    refine lv_if_eq (tgt := 35) hx hb dX0_talk_24 (by decide) (fun c_24 => ?_) (fun c_24 => ?_)
    · skip
      refine lv_aload_n hx hb dX0_talk_35 rfl (lv_at hl 0 rfl) ?_
      refine lv_iload_n hx hb dX0_talk_36 rfl (lv_at hl 1 rfl) ?_
      refine c_m (k_V (As := [.int (nI k)]) (rest := []) F (k_X0_talked x (hO) (hd) k (by omega)) (cwV 1 hts (lw_V q914 q916 qs28 q91 q917) rfl rfl rfl (by decide +kernel) ⟨Nat.le_of_ble_eq_true rfl, Nat.le_of_ble_eq_true rfl⟩) hI hK (hw.recv hI hK (cf_main) rfl) rfl hl.1 rfl (Nat.le_of_ble_eq_true rfl) dX0_talk_37 ⟨Nat.le_of_ble_eq_true rfl, Nat.le_of_ble_eq_true rfl⟩) hS (fun H1 locs1 hI hS => ?_)
      obtain ⟨x1, ex1⟩ : ∃ z, z = xs x 0 (tkn (x.1 0) k) := ⟨_, rfl⟩
      rw [← ex1] at hI
      exact W.iret hx hb hr (fun t ht _ => ⟨rI (by first | (simp only [a_talk, aR, if_neg c_7, en2, if_pos c_24]; done) | (simp [a_talk, aR, c_7, en2, c_24]; done)), by rw [ht]; exact hw_eq hI (congrArg (cfC D L) (by first | (rw [ex1]; simp only [a_talk, aC, if_neg c_7, en2, if_pos c_24]; done) | (simp only [a_talk, aC, xs_self, if_neg c_7, en2, if_pos c_24]; done) | (rw [ex1]; simp [a_talk, aC, c_7, en2, c_24]; done) | (simp [a_talk, aC, c_7, en2, c_24, xs_self]; done))), hS.F ht⟩) hS.2.2 dX0_talk_40
    · skip
      refine lv_aload_n hx hb dX0_talk_27 rfl (lv_at hl 0 rfl) ?_
      refine lv_iconst (v := 4) hx hb dX0_talk_28 (by decide) ?_
      refine c_m (k_V (As := [.int 4]) (rest := []) F (k_X0_finding x 4 (by decide)) (cwV 1 hts (lw_V q457 q459 qs2 q91 q460) rfl rfl rfl (by decide +kernel) ⟨Nat.le_of_ble_eq_true rfl, Nat.le_of_ble_eq_true rfl⟩) hI hK (hw.recv hI hK (cf_main) rfl) rfl hl.1 rfl (Nat.le_of_ble_eq_true rfl) dX0_talk_29 ⟨Nat.le_of_ble_eq_true rfl, Nat.le_of_ble_eq_true rfl⟩) hS (fun H1 locs1 hI hS => ?_)
      obtain ⟨x2, ex2⟩ : ∃ z, z = (fnd x 4) := ⟨_, rfl⟩
      rw [← ex2] at hI
      refine lv_goto (tgt := 40) hx hb dX0_talk_32 (by decide) ?_
      exact W.iret hx hb hr (fun t ht _ => ⟨rI (by first | (simp only [a_talk, aR, if_neg c_7, en2, if_neg c_24]; done) | (simp [a_talk, aR, c_7, en2, c_24]; done)), by rw [ht]; exact hw_eq hI (congrArg (cfC D L) (by first | (rw [ex2]; simp only [a_talk, aC, if_neg c_7, en2, if_neg c_24]; done) | (simp only [a_talk, aC, xs_self, if_neg c_7, en2, if_neg c_24]; done) | (rw [ex2]; simp [a_talk, aC, c_7, en2, c_24]; done) | (simp [a_talk, aC, c_7, en2, c_24, xs_self]; done))), hS.F ht⟩) hS.2.2 dX0_talk_40
  · skip
    refine lv_aload_n hx hb dX0_talk_10 rfl (lv_at hl 0 rfl) ?_
    refine lv_iconst (v := 0) hx hb dX0_talk_11 (by decide) ?_
    refine c_m (k_V (As := [.int 0]) (rest := []) F (k_X0_finding x 0 (by decide)) (cwV 1 hts (lw_V q457 q459 qs2 q91 q460) rfl rfl rfl (by decide +kernel) ⟨Nat.le_of_ble_eq_true rfl, Nat.le_of_ble_eq_true rfl⟩) hI hK (hw.recv hI hK (cf_main) rfl) rfl hl.1 rfl (Nat.le_of_ble_eq_true rfl) dX0_talk_12 ⟨Nat.le_of_ble_eq_true rfl, Nat.le_of_ble_eq_true rfl⟩) hS (fun H1 locs1 hI hS => ?_)
    obtain ⟨x3, ex3⟩ : ∃ z, z = (fnd x 0) := ⟨_, rfl⟩
    rw [← ex3] at hI
    exact W.iret hx hb hr (fun t ht _ => ⟨rI (by first | (simp only [a_talk, aR, if_pos c_7]; done) | (simp [a_talk, aR, c_7]; done)), by rw [ht]; exact hw_eq hI (congrArg (cfC D L) (by first | (rw [ex3]; simp only [a_talk, aC, if_pos c_7]; done) | (simp only [a_talk, aC, xs_self, if_pos c_7]; done) | (rw [ex3]; simp [a_talk, aC, c_7]; done) | (simp [a_talk, aC, c_7, xs_self]; done))), hS.F ht⟩) hS.2.2 dX0_talk_15
