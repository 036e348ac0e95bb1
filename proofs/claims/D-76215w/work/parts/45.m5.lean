/-! LeftGlovesModel: sets, draws, counts -/
theorem fkS_in (f : wd) (t : Int32) (n : Nat) : itr (fkS f t) (-1) n = -1 ∨ ∃ j, j < n ∧ itr (fkS f t) (-1) n = nI j := by
  induction n with
  | zero => exact Or.inl rfl
  | succ n ih =>
    rw [itr_s]
    generalize itr (fkS f t) (-1) n = b at ih ⊢
    have hb : b = -1 ∨ ∃ j, j < n + 1 ∧ b = nI j := ih.imp id (fun ⟨j, h, e⟩ => ⟨j, by omega, e⟩)
    have hn : nI n = -1 ∨ ∃ j, j < n + 1 ∧ nI n = nI j := Or.inr ⟨n, by omega, rfl⟩
    unfold fkS
    split
    · split
      · exact hn
      · exact hb
    · split
      · split
        · exact hn
        · exact hb
      · exact hb
theorem faS_in (f : wd) (k : Nat) (t : Int32) (m n : Nat) : itr (faS f k t m) (-1) n = -1 ∨ ∃ j, j < n ∧ itr (faS f k t m) (-1) n = nI j := by
  induction n with
  | zero => exact Or.inl rfl
  | succ n ih =>
    rw [itr_s]
    generalize itr (faS f k t m) (-1) n = b at ih ⊢
    have hb : b = -1 ∨ ∃ j, j < n + 1 ∧ b = nI j := ih.imp id (fun ⟨j, h, e⟩ => ⟨j, by omega, e⟩)
    have hn : nI n = -1 ∨ ∃ j, j < n + 1 ∧ nI n = nI j := Or.inr ⟨n, by omega, rfl⟩
    unfold faS
    split
    · split
      · split
        · exact hb
        · exact hn
      · split
        · split
          · exact hb
          · exact hn
        · exact hb
    · exact hb
theorem hs_b1 {k j : Nat} (hk : k < 31) (hj : j < 31) : hsI (1 <<< (nI k &&& 31)) (nI j) = if k = j then 1 else 0 := by
  by_cases h31 : k < 31
  · rw [b1_nI k hk, hs_t (Nat.pow_lt_pow_right (by decide) h31) hj, Nat.testBit_two_pow]
    by_cases h : k = j
    · simp [h]
    · simp [h]
  · omega
theorem or_0 (a : Int32) : a ||| 0 = a := i32_ext (by rw [Int32.toBitVec_or]; simp)
theorem z_or (a : Int32) : 0 ||| a = a := i32_ext (by rw [Int32.toBitVec_or]; simp)
theorem kn_one (f : wd) (r k : Nat) (hk : k < wN f) (h8 : wN f ≤ 8) : knI f r (1 <<< (nI k &&& 31)) = f (2 + r) k := by
  have key : ∀ n, n ≤ 8 → itr (knS f r (1 <<< (nI k &&& 31))) 0 n = if k < n then f (2 + r) k else 0 := by
    intro n
    induction n with
    | zero => intro _; rfl
    | succ n ih =>
      intro hn
      rw [itr_s, ih (by omega), knS, hs_b1 (by omega) (by omega)]
      by_cases h1 : k = n
      · subst h1
        rw [if_neg (Nat.lt_irrefl _), if_pos (Nat.lt_succ_self _), if_pos rfl, if_neg (by decide), z_or]
      · rw [if_neg h1, if_pos rfl, or_0]
        by_cases h2 : k < n
        · rw [if_pos h2, if_pos (by omega)]
        · rw [if_neg h2, if_neg (by omega)]
  rw [knI, key _ h8, if_pos hk]
theorem wN_psn (f : wd) (n : Nat) : wN (psn f n) = wN f := by unfold wN; rw [psn_1 _ _ _ (by decide)]
theorem dk_m {f : wd} {k n : Nat} {t v : Int32} (hk : k < wN f) (h8 : wN f ≤ 8) : dkI (u2 f 1 1 v) k t n = hsI (psn (u2 f 1 1 v) n (2 + 3) k ||| psn (u2 f 1 1 v) n (2 + 5) k) t := by
  have e : wN (u2 f 1 1 v) = wN f := by unfold wN; rw [u2_at, if_neg (by decide)]
  rw [dkI, kbI, kn_one _ _ _ (by rw [wN_psn, e]; exact hk) (by rw [wN_psn, e]; exact h8), kn_one _ _ _ (by rw [wN_psn, e]; exact hk) (by rw [wN_psn, e]; exact h8)]
theorem isN_tkn {f : wd} {n : Nat} (hd : isN (f 1 2) 10000) (hn : n ≤ 1000) : isN (tkn f n 1 2) 99999 := by
  obtain ⟨δ, h1, h2⟩ := hd
  exact ⟨δ + n, by omega, tkn_day f h2 n⟩
theorem ho_p {v : Int32} (h : v = -1 ∨ isN v 8) (h2 : (0 : Int32) < v + 1) : ¬ v = -1 := by
  intro q; rw [q] at h2; exact absurd h2 (by decide)
theorem ho_n {v : Int32} (h : v = -1 ∨ isN v 8) (h2 : ¬ (0 : Int32) < v + 1) : v = -1 := by
  rcases h with h | ⟨j, hj, e⟩
  · exact h
  · exfalso
    refine h2 ?_
    rw [e, nI_1]
    exact nI_lt (a := 0) (by omega) (by omega)
theorem isN_kn {f : wd} (h : wOk f) (r : Nat) (sm : Int32) (hr : r = 3 ∨ r = 5) : isN (knI f r sm) 65536 := by
  have h8 := h.n.2
  have key : ∀ n, n ≤ 8 → isN (itr (knS f r sm) 0 n) (2 ^ 16) := by
    intro n
    induction n with
    | zero => intro _; exact ⟨0, by decide, rfl⟩
    | succ n ih =>
      intro hn
      rw [itr_s, knS]
      refine isN_or (ih (by omega)) ?_
      split
      · exact ⟨0, by decide, rfl⟩
      · rcases hr with rfl | rfl
        · exact (h.2.1 n (by omega)).2.2.2.1
        · exact (h.2.1 n (by omega)).2.2.2.2.2.1
  exact key _ h8
theorem in_m6 {k : Int32} (h : ¬ inI k (-1) 6 = 0) (h0 : ¬ k < 0) : ∃ q, q ≤ 6 ∧ k = nI q := by
  obtain ⟨q, hq, rfl⟩ := nI_of h0
  refine ⟨q, ?_, rfl⟩
  unfold inI at h
  by_cases h1 : nI q < -1
  · rw [if_pos h1] at h; exact absurd rfl h
  · rw [if_neg h1] at h
    by_cases h2 : (6 : Int32) < nI q
    · rw [if_pos h2] at h; exact absurd rfl h
    · have : ¬ 6 < q := fun z => h2 (nI_lt (a := 6) z hq)
      omega
theorem in_m1 {k : Int32} (h : ¬ inI k (-1) 6 = 0) (h0 : k < 0) : k = -1 := by
  unfold inI at h
  by_cases h1 : k < -1
  · rw [if_pos h1] at h; exact absurd rfl h
  · refine Int32.toInt_inj.mp ?_
    rw [Int32.lt_iff_toInt_lt] at h1 h0
    have z : (0 : Int32).toInt = 0 := rfl
    have w : (-1 : Int32).toInt = -1 := rfl
    omega
theorem stt_q {r : Nat → Int32} {k : Int32} {q : Nat} (ek : k = nI q) (hq : q < 7) : sttI r k = r q := by
  subst ek
  have hne : ¬ nI q = -1 := nI_m1 (by omega)
  have key : ∀ n, n ≤ 7 → itr (sttS r (nI q)) 0 n = if q < n then r q else 0 := by
    intro n
    induction n with
    | zero => intro _; rfl
    | succ n ih =>
      intro hn
      rw [itr_s, ih (by omega), sttS, if_neg hne]
      by_cases h1 : q = n
      · subst h1
        rw [if_neg (Nat.lt_irrefl _), if_pos (Nat.lt_succ_self _), if_pos rfl, Int32.zero_add]
      · rw [if_neg (fun z => h1 ((nI_eq (by omega) (by omega)).mp z)), Int32.add_zero]
        by_cases h2 : q < n
        · rw [if_pos h2, if_pos (by omega)]
        · rw [if_neg h2, if_neg (by omega)]
  rw [sttI, key 7 (by decide), if_pos hq]
theorem hold_in {f : wd} {g : Int32} {n : Nat} (hn : f 1 0 = nI n) (h8 : n ≤ 8) : inI g (-1) (f 1 0 - 1) = 0 ↔ (¬ g = -1 ∧ isGlI f g = 0) := by
  have e : (f 1 0 - 1).toInt = (n : Int) - 1 := by rw [hn]; exact pk_sub_toInt (a := n) (b := 1) (by omega) (by decide)
  have w : (-1 : Int32).toInt = -1 := rfl
  have z : (0 : Int32).toInt = 0 := rfl
  have hg : g = -1 ↔ g.toInt = -1 := ⟨fun q => by rw [q]; rfl, fun q => Int32.toInt_inj.mp (by rw [q]; rfl)⟩
  unfold isGlI inI
  rw [hg]
  simp only [Int32.lt_iff_toInt_lt, e, w, z]
  by_cases h1 : g.toInt < -1
  · simp [h1, show g.toInt < 0 by omega, show ¬ g.toInt = -1 by omega]
  · rw [if_neg h1]
    by_cases h2 : (n : Int) - 1 < g.toInt
    · rw [if_pos h2]
      by_cases h3 : g.toInt = -1
      · omega
      · simp [h3]
    · rw [if_neg h2]
      by_cases h3 : g.toInt = -1
      · simp [h3]
      · simp [show ¬ g.toInt < 0 by omega]
theorem hold_n {f : wd} {s g : Int32} {n : Nat} (hn : f 1 0 = nI n) (h8 : n ≤ 8) (h : inI g (-1) (f 1 0 - 1) = 0) : a_hold f s g = .inl 0 := by
  obtain ⟨h1, h2⟩ := (hold_in hn h8).mp h
  unfold a_hold
  rw [if_neg h1, if_pos h2, ite_self]
theorem hold_y {f : wd} {s g : Int32} {n : Nat} (hn : f 1 0 = nI n) (h8 : n ≤ 8) (hs : ¬ inI s 0 9 = 0) (h : ¬ inI g (-1) (f 1 0 - 1) = 0) : a_hold f s g = .inr (1, u2 f 9 s.toNatClampNeg g) := by
  unfold a_hold
  rw [if_neg hs]
  by_cases h1 : g = -1
  · rw [if_pos h1]
  · rw [if_neg h1, if_neg (fun q => h ((hold_in hn h8).mpr ⟨h1, q⟩))]
theorem as_0 {f : wd} {s kd : Int32} {j : Nat} (h1 : ¬ inI s 0 9 = 0) (h2 : ¬ inI kd 0 6 = 0) (es : s.toNatClampNeg = j) (h : f 9 j + 1 = 0) : a_as f s kd = .inl 5 := by
  have e : f 9 j = -1 := by
    have h2 : f 9 j + 1 - 1 = 0 - 1 := by rw [h]
    rw [Int32.add_sub_cancel] at h2
    rw [h2]; rfl
  rw [a_as, if_neg h1, if_neg h2, es, if_pos e]
theorem as_v {f : wd} {s kd : Int32} {j q : Nat} (h1 : ¬ inI s 0 9 = 0) (h2 : ¬ inI kd 0 6 = 0) (es : s.toNatClampNeg = j) (e : f 9 j = nI q) (hq : q < 8 := by omega) : a_as f s kd = if unI (kN f q) kd = 0 then .inl 2 else .inr (nI q, f) := by
  rw [a_as, if_neg h1, if_neg h2, es, e, if_neg (nI_m1 (by omega)), nI_clamp (by omega)]
theorem un_m {κ : Nat} {kd : Int32} (hκ : κ < 7) (h : kd = 0 ∨ kd = nI κ ∨ kd = abI (nI κ) ∨ kd = abI (abI (nI κ))) : ¬ unI κ kd = 0 := by
  match κ, hκ with
  | 0, _ => rcases h with h | h | h | h <;> subst h <;> decide
  | 1, _ => rcases h with h | h | h | h <;> subst h <;> decide
  | 2, _ => rcases h with h | h | h | h <;> subst h <;> decide
  | 3, _ => rcases h with h | h | h | h <;> subst h <;> decide
  | 4, _ => rcases h with h | h | h | h <;> subst h <;> decide
  | 5, _ => rcases h with h | h | h | h <;> subst h <;> decide
  | 6, _ => rcases h with h | h | h | h <;> subst h <;> decide
theorem un_n {κ : Nat} {kd : Int32} (hκ : κ < 7) (h0 : ¬ kd = 0) (h1 : ¬ kd = nI κ) (h2 : ¬ kd = abI (nI κ)) (h3 : ¬ kd = abI (abI (nI κ))) : unI κ kd = 0 := by
  match κ, hκ, h1, h2, h3 with
  | 0, _, h1, h2, h3 => simp [unI, g0I, h0, show ¬ kd = kdI 0 from h1]
  | 1, _, h1, h2, h3 => simp [unI, g0I, h0, show ¬ kd = kdI 1 from h1, show ¬ kd = 1 from h1]
  | 2, _, h1, h2, h3 => simp [unI, g0I, h0, show ¬ kd = kdI 2 from h1, show ¬ kd = 2 from h1]
  | 3, _, h1, h2, h3 => simp [unI, g0I, h0, show ¬ kd = kdI 3 from h1, show ¬ kd = 3 from h1, show ¬ kd = 2 from h2]
  | 4, _, h1, h2, h3 => simp [unI, g0I, h0, show ¬ kd = kdI 4 from h1, show ¬ kd = 3 from h2, show ¬ kd = 2 from h3]
  | 5, _, h1, h2, h3 => simp [unI, g0I, h0, show ¬ kd = kdI 5 from h1]
  | 6, _, h1, h2, h3 => simp [unI, g0I, h0, show ¬ kd = kdI 6 from h1, show ¬ kd = 1 from h2]
theorem k_X13_cover {l : Launch} {D : va_G} {L : Nat → Nat} {A : Nat → Prop} (x : mst) (hO : wOk (x.1 0)) (t : Int32) : Met l yX13_cover (ws_ yX13_cover cX13_cover 5 (some .int)) ({ frames := 2, cells := 0, slots := 0, locals := 46 } : Room) (va_Pc [.ref (L 0), .int t] (pI D (cfM D L x) A)) (jMQ D L (aM x (a_cover (x.1 0) t)) A (some (.int (aR (a_cover (x.1 0) t))))) 0 0 A := by
  refine met_I (by decide) rfl (Nat.le_of_ble_eq_true rfl) ?_
  intro p e s m below meth c ls hx hb hr hml hown hts hlocks hl hI hK
  have F : CallFix p m c cX13_cover 5 s _ lw_all RX13 := ⟨hx, hb, hml, hown, hts⟩
  have hl : lv_has ls 5 [(0, .ref (L 0)), (1, .int t)] := hl
  have hS : va_S A s.heap s.heap [] := va_S.rf
  obtain ⟨nn, hn, h8⟩ : ∃ n, x.1 0 1 0 = nI n ∧ n ≤ 8 := ⟨_, hO.n⟩
  have hN : wN (x.1 0) = nn := by unfold wN; rw [hn, nI_clamp (by omega)]
  obtain ⟨NN, hA, h256, hNN⟩ : ∃ N, (1 : Int32) <<< ((x.1 0 1 0) &&& 31) = nI N ∧ N ≤ 256 ∧ 2 ^ wN (x.1 0) = N := ⟨2 ^ nn, by rw [hn]; exact b1_nI nn (by omega), Nat.pow_le_pow_right (show 0 < 2 by decide) h8, by rw [hN]⟩
  refine lv_iload_n hx hb dX13_cover_0 rfl (lv_at hl 1 rfl) ?_
  refine c_r (k_S (As := [.int t]) (rest := []) F (k_X13_areTopics t) (va_cwS 1 hts (lw_S q1411 q1412 q107 q1413) rfl rfl rfl (by decide +kernel) ⟨Nat.le_of_ble_eq_true rfl, Nat.le_of_ble_eq_true rfl⟩) rfl hl.1 rfl (Nat.le_of_ble_eq_true rfl) dX13_cover_1 ⟨Nat.le_of_ble_eq_true rfl, Nat.le_of_ble_eq_true rfl⟩) ?_
  refine lv_if_ne (tgt := 13) hx hb dX13_cover_4 (by decide) (fun c_4 => ?_) (fun c_4 => ?_)
  · skip
    refine lv_iconst (v := (-1)) hx hb dX13_cover_13 (by decide) ?_
    refine lv_istore_n (lv' := [(2, .int (-1)), (0, .ref (L 0)), (1, .int t)]) hx hb dX13_cover_14 rfl hl (by decide) rfl (fun ls hl => ?_)
    refine lv_iconst (v := 0) hx hb dX13_cover_15 (by decide) ?_
    refine lv_istore_n (lv' := [(3, .int 0), (2, .int (-1)), (0, .ref (L 0)), (1, .int t)]) hx hb dX13_cover_16 rfl hl (by decide) rfl (fun ls hl => ?_)
    have lp17 : ∀ (fuel : Nat) (i : Nat), (i ≤ NN) → NN - i < fuel → ∀ (v2 : Int32) (v3 : Int32), v2 = (itr (fkS (x.1 0) t) (-1) i) → v3 = nI i → ∀ (xc17 : mst), xc17 = x → ∀ (H : Heap) (locs : List Loc), hw D (cfM D L xc17) A H → va_S A s.heap H locs → ∀ (ls : Array Slot), lv_has ls 5 [(0, .ref (L 0)), (1, .int t), (2, .int v2), (3, .int v3)] → W p l e ({ frames := 2, cells := 0, slots := 0, locals := 46 } : Room) s m ([.ref (L 0), .int t] : List Value).toArray below meth c H locs 0 0 (MQ below (jMQ D L (aM x (a_cover (x.1 0) t)) A (some (.int (aR (a_cover (x.1 0) t))))) ([.ref (L 0), .int t] : List Value).toArray s 0 0 A) (F0 m 17 ls []) := by
      intro fuel
      induction fuel with
      | zero => intro i hi hf; exact absurd hf (Nat.not_lt_zero _)
      | succ fuel ih17 =>
        intro i hi hf17 v2 v3 e2 e3  xc17 exc17 H locs hI hS ls hl
        subst e2 e3
        have hA2 : (1 : Int32) <<< ((xc17.1 0 1 0) &&& 31) = nI NN := by rw [exc17]; exact hA
        have hO_xc17 : wOk (xc17.1 0) := by rw [exc17]; exact hO
        refine lv_iload_n hx hb dX13_cover_17 rfl (lv_at hl 3 rfl) ?_
        refine lv_iconst (v := 1) hx hb dX13_cover_18 (by decide) ?_
        refine lv_aload_n hx hb dX13_cover_19 rfl (lv_at hl 0 rfl) ?_
        refine r_get (C := RX13) (T := TX13) (N := 18) hx hb hts in_X13 hown hK hI (mf_main) rfl 0 (by decide) (hts _ q1164) (fun _ h => h) rfl dX13_cover_20 ?_
        refine lv_iconst (v := 0) hx hb dX13_cover_23 (by decide) ?_
        refine n_ialdv (k := 0) (v := (xc17.1 0 1 0)) hx hb hK hI (mf_d) (rfl) (by decide) (by decide) (rfl) dX13_cover_24 ?_
        refine lv_ishl hx hb dX13_cover_25 ?_
        refine lv_icmp_ge (tgt := 88) hx hb dX13_cover_26 (by decide) (fun c_26 => ?_) (fun c_26 => ?_)
        · skip
          have c_26 : NN ≤ i := (nle (a := NN) (b := i) (hA2) (rfl) (by omega) (by omega)).mp c_26
          have hA : a_cover (x.1 0) t = a_orN (x.1 0) (itr (fkS (x.1 0) t) (-1) i) := by rw [a_cover, if_neg c_4, fkI, hNN, show i = NN by omega]
          refine lv_iload_n hx hb dX13_cover_88 rfl (lv_at hl 2 rfl) ?_
          refine lv_if_ge (tgt := 100) hx hb dX13_cover_89 (by decide) (fun c_89 => ?_) (fun c_89 => ?_)
          · skip
            have c_89 := Int32.not_lt.mpr c_89
            refine lv_iload_n hx hb dX13_cover_100 rfl (lv_at hl 2 rfl) ?_
            exact W.iret hx hb hr (fun t ht _ => ⟨rI (by rw [hA, aR_orN]; first | (rw [wi_lt (by omega) (fkS_in (x.1 0) _ i) c_89]; rfl) | (rw [orI, if_neg (fun q => c_89 (by rw [q]; decide))])), ⟨xc17, (by rw [hA, aM_orN]; first | (rw [wi_lt (by omega) (fkS_in (x.1 0) _ i) c_89, orM, if_pos rfl, exc17]; refine jm_fnd ?_ 3; rw []; exact jm_rfl) | (rw [orM, if_neg (fun q => c_89 (by rw [q]; decide)), exc17]; exact jm_rfl)), by rw [ht]; exact hI⟩, hS.F ht⟩) hS.2.2 dX13_cover_101
          · skip
            have c_89 := Int32.not_le.mp c_89
            refine lv_aload_n hx hb dX13_cover_92 rfl (lv_at hl 0 rfl) ?_
            refine lv_iconst (v := 3) hx hb dX13_cover_93 (by decide) ?_
            refine c_m (k_V (As := [.int 3]) (rest := []) F (k_X13_finds xc17 3 (by decide)) (cwV 1 hts (lw_V q1238 q1240 qs47 q107 q1241) rfl rfl rfl (by decide +kernel) ⟨Nat.le_of_ble_eq_true rfl, Nat.le_of_ble_eq_true rfl⟩) hI hK (hw.recv hI hK (mf_main) rfl) rfl hl.1 rfl (Nat.le_of_ble_eq_true rfl) dX13_cover_94 ⟨Nat.le_of_ble_eq_true rfl, Nat.le_of_ble_eq_true rfl⟩) hS (fun H1 locs1 hI hS => ?_)
            obtain ⟨x1, ex1⟩ : ∃ z, z = (fndM xc17 3) := ⟨_, rfl⟩
            rw [← ex1] at hI
            refine lv_goto (tgt := 101) hx hb dX13_cover_97 (by decide) ?_
            exact W.iret hx hb hr (fun t ht _ => ⟨rI (by rw [hA, aR_orN]; first | (rw [wi_lt (by omega) (fkS_in (x.1 0) _ i) c_89]; rfl) | (rw [orI, if_neg (fun q => c_89 (by rw [q]; decide))])), ⟨x1, (by rw [hA, aM_orN]; first | (rw [wi_lt (by omega) (fkS_in (x.1 0) _ i) c_89, orM, if_pos rfl, ex1]; refine jm_fnd ?_ 3; rw [exc17]; exact jm_rfl) | (rw [orM, if_neg (fun q => c_89 (by rw [q]; decide)), ex1, exc17]; exact jm_rfl)), by rw [ht]; exact hI⟩, hS.F ht⟩) hS.2.2 dX13_cover_101
        · skip
          have c_26 : ¬ NN ≤ i := fun z => c_26 ((nle (a := NN) (b := i) (hA2) (rfl) (by omega) (by omega)).mpr z)
          refine lv_iload_n hx hb dX13_cover_29 rfl (lv_at hl 1 rfl) ?_
          refine lv_aload_n hx hb dX13_cover_30 rfl (lv_at hl 0 rfl) ?_
          refine lv_iload_n hx hb dX13_cover_31 rfl (lv_at hl 3 rfl) ?_
          refine lv_iconst (v := 3) hx hb dX13_cover_32 (by decide) ?_
          refine c_r (k_V (As := [.int (nI i), .int 3]) (rest := [.int t]) F (k_X13_known xc17 (hO_xc17) (nI i) 3 (by omega)) (cwV 2 hts (lw_V q1268 q1270 qs52 q107 q1271) rfl rfl rfl (by decide +kernel) ⟨Nat.le_of_ble_eq_true rfl, Nat.le_of_ble_eq_true rfl⟩) hI hK (hw.recv hI hK (mf_main) rfl) rfl hl.1 rfl (Nat.le_of_ble_eq_true rfl) dX13_cover_33 ⟨Nat.le_of_ble_eq_true rfl, Nat.le_of_ble_eq_true rfl⟩) ?_
          refine lv_aload_n hx hb dX13_cover_36 rfl (lv_at hl 0 rfl) ?_
          refine lv_iload_n hx hb dX13_cover_37 rfl (lv_at hl 3 rfl) ?_
          refine lv_iconst (v := 5) hx hb dX13_cover_38 (by decide) ?_
          refine c_r (k_V (As := [.int (nI i), .int 5]) (rest := [.int (knI (xc17.1 0) 3 (nI i)), .int t]) F (k_X13_known xc17 (hO_xc17) (nI i) 5 (by omega)) (cwV 2 hts (lw_V q1268 q1270 qs52 q107 q1271) rfl rfl rfl (by decide +kernel) ⟨Nat.le_of_ble_eq_true rfl, Nat.le_of_ble_eq_true rfl⟩) hI hK (hw.recv hI hK (mf_main) rfl) rfl hl.1 rfl (Nat.le_of_ble_eq_true rfl) dX13_cover_39 ⟨Nat.le_of_ble_eq_true rfl, Nat.le_of_ble_eq_true rfl⟩) ?_
          refine lv_ior hx hb dX13_cover_42 ?_
          refine lv_iconst (v := (-1)) hx hb dX13_cover_43 (by decide) ?_
          refine lv_ixor hx hb dX13_cover_44 ?_
          refine lv_iand hx hb dX13_cover_45 ?_
          refine lv_if_ne (tgt := 53) hx hb dX13_cover_46 (by decide) (fun c_46 => ?_) (fun c_46 => ?_)
          · skip
            refine lv_iconst (v := 0) hx hb dX13_cover_53 (by decide) ?_
            refine lv_istore (lv' := [(4, .int 0), (0, .ref (L 0)), (1, .int t), (2, .int (itr (fkS (x.1 0) t) (-1) i)), (3, .int (nI i))]) hx hb dX13_cover_54 hl (by decide) rfl (fun ls hl => ?_)
            refine lv_iload hx hb dX13_cover_56 (lv_at hl 0 rfl) ?_
            refine lv_if_eq (tgt := 80) hx hb dX13_cover_58 (by decide) (fun c_58 => ?_) (fun c_58 => ?_)
            · skip
              have c_58 : 0 = 0 := (neq (a := 0) (b := 0) (rfl) (rfl) (by omega) (by omega)).mp c_58
              refine lv_iload_n hx hb dX13_cover_80 rfl (lv_at hl 3 rfl) ?_
              refine lv_istore_n (lv' := [(2, .int (itr (fkS (x.1 0) t) (-1) i)), (4, .int 0), (0, .ref (L 0)), (1, .int t), (3, .int (nI i))]) hx hb dX13_cover_81 rfl hl (by decide) rfl (fun ls hl => ?_)
              refine lv_iinc (v := (nI (i + 1))) (lv' := [(3, .int (nI (i + 1))), (2, .int (itr (fkS (x.1 0) t) (-1) i)), (4, .int 0), (0, .ref (L 0)), (1, .int t)]) hx hb dX13_cover_82 hl (k := 4) rfl (nI_1 _) (by decide) rfl (fun ls hl => ?_)
              refine lv_goto (tgt := 17) hx hb dX13_cover_85 (by decide) ?_
              exact ih17 (i + 1) (by omega) (by omega) (itr (fkS (x.1 0) t) (-1) i) (nI (i + 1)) (by rw [exc17] at c_46; rw [itr_s, fkS, kbI]; first | (rw [if_neg c_46, ite_self, ite_self]; done) | (rw [if_pos c_46, if_pos hm1]; done) | (rw [if_pos c_46, if_neg hm1]; first | rw [if_pos c_73] | rw [if_neg c_73]; done)) (rfl) xc17 (exc17) _ _ hI hS ls (lv_sub hl [3, 4, 1, 0] rfl)
            · skip
              have c_58 : ¬ 0 = 0 := fun z => c_58 ((neq (a := 0) (b := 0) (rfl) (rfl) (by omega) (by omega)).mpr z)
              exact absurd (by decide) c_58
          · skip
            refine lv_iconst (v := 1) hx hb dX13_cover_49 (by decide) ?_
            refine lv_goto (tgt := 54) hx hb dX13_cover_50 (by decide) ?_
            refine lv_istore (lv' := [(4, .int 1), (0, .ref (L 0)), (1, .int t), (2, .int (itr (fkS (x.1 0) t) (-1) i)), (3, .int (nI i))]) hx hb dX13_cover_54 hl (by decide) rfl (fun ls hl => ?_)
            refine lv_iload hx hb dX13_cover_56 (lv_at hl 0 rfl) ?_
            refine lv_if_eq (tgt := 80) hx hb dX13_cover_58 (by decide) (fun c_58 => ?_) (fun c_58 => ?_)
            · skip
              have c_58 : 1 = 0 := (neq (a := 1) (b := 0) (rfl) (rfl) (by omega) (by omega)).mp c_58
              exact absurd c_58 (by decide)
            · skip
              have c_58 : ¬ 1 = 0 := fun z => c_58 ((neq (a := 1) (b := 0) (rfl) (rfl) (by omega) (by omega)).mpr z)
              refine lv_iload_n hx hb dX13_cover_61 rfl (lv_at hl 3 rfl) ?_
              refine lv_if_lt (tgt := 76) hx hb dX13_cover_62 (by decide) (fun c_62 => ?_) (fun c_62 => ?_)
              · skip
                have hm1 : (itr (fkS (x.1 0) t) (-1) i) = -1 := wi_lt (by omega) (fkS_in (x.1 0) t i) c_62
                refine lv_iload_n hx hb dX13_cover_76 rfl (lv_at hl 4 rfl) ?_
                refine lv_goto (tgt := 81) hx hb dX13_cover_77 (by decide) ?_
                refine lv_istore_n (lv' := [(2, .int (nI i)), (4, .int 1), (0, .ref (L 0)), (1, .int t), (3, .int (nI i))]) hx hb dX13_cover_81 rfl hl (by decide) rfl (fun ls hl => ?_)
                refine lv_iinc (v := (nI (i + 1))) (lv' := [(3, .int (nI (i + 1))), (2, .int (nI i)), (4, .int 1), (0, .ref (L 0)), (1, .int t)]) hx hb dX13_cover_82 hl (k := 4) rfl (nI_1 _) (by decide) rfl (fun ls hl => ?_)
                refine lv_goto (tgt := 17) hx hb dX13_cover_85 (by decide) ?_
                exact ih17 (i + 1) (by omega) (by omega) (nI i) (nI (i + 1)) (by rw [exc17] at c_46; rw [itr_s, fkS, kbI]; first | (rw [if_neg c_46, ite_self, ite_self]; done) | (rw [if_pos c_46, if_pos hm1]; done) | (rw [if_pos c_46, if_neg hm1]; first | rw [if_pos c_73] | rw [if_neg c_73]; done)) (rfl) xc17 (exc17) _ _ hI hS ls (lv_sub hl [3, 4, 1, 0] rfl)
              · skip
                have hm1 : ¬ (itr (fkS (x.1 0) t) (-1) i) = -1 := fun q => c_62 (by rw [q]; decide)
                obtain ⟨j, hj, ej⟩ := (fkS_in (x.1 0) t i).resolve_left hm1
                refine lv_iload_n hx hb dX13_cover_65 rfl (lv_at hl 4 rfl) ?_
                refine c_r (k_S (As := [.int (nI i)]) (rest := []) F (k_X13_ones (nI i) (⟨i, by omega, rfl⟩)) (va_cwS 1 hts (lw_S q1363 q1364 q107 q1365) rfl rfl rfl (by decide +kernel) ⟨Nat.le_of_ble_eq_true rfl, Nat.le_of_ble_eq_true rfl⟩) rfl hl.1 rfl (Nat.le_of_ble_eq_true rfl) dX13_cover_66 ⟨Nat.le_of_ble_eq_true rfl, Nat.le_of_ble_eq_true rfl⟩) ?_
                refine lv_iload_n hx hb dX13_cover_69 rfl (lv_at hl 3 rfl) ?_
                refine c_r (k_S (As := [.int (itr (fkS (x.1 0) t) (-1) i)]) (rest := [.int (bcI (nI i))]) F (k_X13_ones (itr (fkS (x.1 0) t) (-1) i) (⟨j, by omega, ej⟩)) (va_cwS 1 hts (lw_S q1363 q1364 q107 q1365) rfl rfl rfl (by decide +kernel) ⟨Nat.le_of_ble_eq_true rfl, Nat.le_of_ble_eq_true rfl⟩) rfl hl.1 rfl (Nat.le_of_ble_eq_true rfl) dX13_cover_70 ⟨Nat.le_of_ble_eq_true rfl, Nat.le_of_ble_eq_true rfl⟩) ?_
                refine lv_icmp_ge (tgt := 80) hx hb dX13_cover_73 (by decide) (fun c_73 => ?_) (fun c_73 => ?_)
                · skip
                  have c_73 := Int32.not_lt.mpr c_73
                  refine lv_iload_n hx hb dX13_cover_80 rfl (lv_at hl 3 rfl) ?_
                  refine lv_istore_n (lv' := [(2, .int (itr (fkS (x.1 0) t) (-1) i)), (4, .int 1), (0, .ref (L 0)), (1, .int t), (3, .int (nI i))]) hx hb dX13_cover_81 rfl hl (by decide) rfl (fun ls hl => ?_)
                  refine lv_iinc (v := (nI (i + 1))) (lv' := [(3, .int (nI (i + 1))), (2, .int (itr (fkS (x.1 0) t) (-1) i)), (4, .int 1), (0, .ref (L 0)), (1, .int t)]) hx hb dX13_cover_82 hl (k := 4) rfl (nI_1 _) (by decide) rfl (fun ls hl => ?_)
                  refine lv_goto (tgt := 17) hx hb dX13_cover_85 (by decide) ?_
                  exact ih17 (i + 1) (by omega) (by omega) (itr (fkS (x.1 0) t) (-1) i) (nI (i + 1)) (by rw [exc17] at c_46; rw [itr_s, fkS, kbI]; first | (rw [if_neg c_46, ite_self, ite_self]; done) | (rw [if_pos c_46, if_pos hm1]; done) | (rw [if_pos c_46, if_neg hm1]; first | rw [if_pos c_73] | rw [if_neg c_73]; done)) (rfl) xc17 (exc17) _ _ hI hS ls (lv_sub hl [3, 4, 1, 0] rfl)
                · skip
                  have c_73 := Int32.not_le.mp c_73
                  refine lv_iload_n hx hb dX13_cover_76 rfl (lv_at hl 4 rfl) ?_
                  refine lv_goto (tgt := 81) hx hb dX13_cover_77 (by decide) ?_
                  refine lv_istore_n (lv' := [(2, .int (nI i)), (4, .int 1), (0, .ref (L 0)), (1, .int t), (3, .int (nI i))]) hx hb dX13_cover_81 rfl hl (by decide) rfl (fun ls hl => ?_)
                  refine lv_iinc (v := (nI (i + 1))) (lv' := [(3, .int (nI (i + 1))), (2, .int (nI i)), (4, .int 1), (0, .ref (L 0)), (1, .int t)]) hx hb dX13_cover_82 hl (k := 4) rfl (nI_1 _) (by decide) rfl (fun ls hl => ?_)
                  refine lv_goto (tgt := 17) hx hb dX13_cover_85 (by decide) ?_
                  exact ih17 (i + 1) (by omega) (by omega) (nI i) (nI (i + 1)) (by rw [exc17] at c_46; rw [itr_s, fkS, kbI]; first | (rw [if_neg c_46, ite_self, ite_self]; done) | (rw [if_pos c_46, if_pos hm1]; done) | (rw [if_pos c_46, if_neg hm1]; first | rw [if_pos c_73] | rw [if_neg c_73]; done)) (rfl) xc17 (exc17) _ _ hI hS ls (lv_sub hl [3, 4, 1, 0] rfl)
    exact lp17 (_ + 1) (0) (Nat.zero_le _) (Nat.lt_succ_self _) (-1) 0 (rfl) (rfl) x (rfl) _ _ hI hS ls (lv_sub hl [2, 3, 1, 0] rfl)
  · skip
    refine lv_aload_n hx hb dX13_cover_7 rfl (lv_at hl 0 rfl) ?_
    refine lv_iconst (v := 0) hx hb dX13_cover_8 (by decide) ?_
    refine c_m (k_V (As := [.int 0]) (rest := []) F (k_X13_finds x 0 (by decide)) (cwV 1 hts (lw_V q1238 q1240 qs47 q107 q1241) rfl rfl rfl (by decide +kernel) ⟨Nat.le_of_ble_eq_true rfl, Nat.le_of_ble_eq_true rfl⟩) hI hK (hw.recv hI hK (mf_main) rfl) rfl hl.1 rfl (Nat.le_of_ble_eq_true rfl) dX13_cover_9 ⟨Nat.le_of_ble_eq_true rfl, Nat.le_of_ble_eq_true rfl⟩) hS (fun H1 locs1 hI hS => ?_)
    obtain ⟨x2, ex2⟩ : ∃ z, z = (fndM x 0) := ⟨_, rfl⟩
    rw [← ex2] at hI
    exact W.iret hx hb hr (fun t ht _ => ⟨rI (by first | (simp [a_cover, aR, c_4]; done)), ⟨x2, (by refine jm_eq ?_; rw [ex2]; simp [a_cover, aM, c_4]), by rw [ht]; exact hI⟩, hS.F ht⟩) hS.2.2 dX13_cover_12
set_option maxHeartbeats 3000000 in
theorem k_X13_away {l : Launch} {D : va_G} {L : Nat → Nat} {A : Nat → Prop} (x : mst) (hO : wOk (x.1 0)) (hd : isN (x.1 0 1 2) 10000) (hgo : x.1 0 1 1 = 0) (g t n : Int32) : Met l yX13_away (ws_ yX13_away cX13_away 7 (some .int)) ({ frames := 7, cells := 0, slots := 0, locals := 158 } : Room) (va_Pc [.ref (L 0), .int g, .int t, .int n] (pI D (cfM D L x) A)) (jMQ D L (aM x (a_away (x.1 0) g t n)) A (some (.int (aR (a_away (x.1 0) g t n))))) 0 0 A := by
  refine met_I (by decide) rfl (Nat.le_of_ble_eq_true rfl) ?_
  intro p e s m below meth c ls hx hb hr hml hown hts hlocks hl hI hK
  have F : CallFix p m c cX13_away 7 s _ lw_all RX13 := ⟨hx, hb, hml, hown, hts⟩
  have hl : lv_has ls 7 [(0, .ref (L 0)), (1, .int g), (2, .int t), (3, .int n)] := hl
  have hS : va_S A s.heap s.heap [] := va_S.rf
  obtain ⟨nn, hn, h8⟩ : ∃ n, x.1 0 1 0 = nI n ∧ n ≤ 8 := ⟨_, hO.n⟩
  have hN : wN (x.1 0) = nn := by unfold wN; rw [hn, nI_clamp (by omega)]
  obtain ⟨NN, hA, h256, hNN⟩ : ∃ N, (1 : Int32) <<< ((x.1 0 1 0) &&& 31) = nI N ∧ N ≤ 256 ∧ 2 ^ wN (x.1 0) = N := ⟨2 ^ nn, by rw [hn]; exact b1_nI nn (by omega), Nat.pow_le_pow_right (show 0 < 2 by decide) h8, by rw [hN]⟩
  refine lv_aload_n hx hb dX13_away_0 rfl (lv_at hl 0 rfl) ?_
  refine lv_iload_n hx hb dX13_away_1 rfl (lv_at hl 1 rfl) ?_
  refine c_r (k_V (As := [.int g]) (rest := []) F (k_X13_isGlove x g) (cwV 1 hts (lw_V q1289 q1291 qs55 q107 q1292) rfl rfl rfl (by decide +kernel) ⟨Nat.le_of_ble_eq_true rfl, Nat.le_of_ble_eq_true rfl⟩) hI hK (hw.recv hI hK (mf_main) rfl) rfl hl.1 rfl (Nat.le_of_ble_eq_true rfl) dX13_away_2 ⟨Nat.le_of_ble_eq_true rfl, Nat.le_of_ble_eq_true rfl⟩) ?_
  refine lv_if_eq (tgt := 27) hx hb dX13_away_5 (by decide) (fun c_5 => ?_) (fun c_5 => ?_)
  · skip
    refine lv_aload_n hx hb dX13_away_27 rfl (lv_at hl 0 rfl) ?_
    refine lv_iconst (v := 0) hx hb dX13_away_28 (by decide) ?_
    refine c_m (k_V (As := [.int 0]) (rest := []) F (k_X13_finds x 0 (by decide)) (cwV 1 hts (lw_V q1238 q1240 qs47 q107 q1241) rfl rfl rfl (by decide +kernel) ⟨Nat.le_of_ble_eq_true rfl, Nat.le_of_ble_eq_true rfl⟩) hI hK (hw.recv hI hK (mf_main) rfl) rfl hl.1 rfl (Nat.le_of_ble_eq_true rfl) dX13_away_29 ⟨Nat.le_of_ble_eq_true rfl, Nat.le_of_ble_eq_true rfl⟩) hS (fun H1 locs1 hI hS => ?_)
    obtain ⟨x1, ex1⟩ : ∃ z, z = (fndM x 0) := ⟨_, rfl⟩
    rw [← ex1] at hI
    exact W.iret hx hb hr (fun t ht _ => ⟨rI (by first | (simp [a_away, aR, c_5]; done)), ⟨x1, (by refine jm_eq ?_; rw [ex1]; simp [a_away, aM, c_5]), by rw [ht]; exact hI⟩, hS.F ht⟩) hS.2.2 dX13_away_32
  · skip
    refine lv_iload_n hx hb dX13_away_8 rfl (lv_at hl 2 rfl) ?_
    refine c_r (k_S (As := [.int t]) (rest := []) F (k_X13_isTopic t) (va_cwS 1 hts (lw_S q1333 q1334 q107 q1335) rfl rfl rfl (by decide +kernel) ⟨Nat.le_of_ble_eq_true rfl, Nat.le_of_ble_eq_true rfl⟩) rfl hl.1 rfl (Nat.le_of_ble_eq_true rfl) dX13_away_9 ⟨Nat.le_of_ble_eq_true rfl, Nat.le_of_ble_eq_true rfl⟩) ?_
    refine lv_if_eq (tgt := 27) hx hb dX13_away_12 (by decide) (fun c_12 => ?_) (fun c_12 => ?_)
    · skip
      refine lv_aload_n hx hb dX13_away_27 rfl (lv_at hl 0 rfl) ?_
      refine lv_iconst (v := 0) hx hb dX13_away_28 (by decide) ?_
      refine c_m (k_V (As := [.int 0]) (rest := []) F (k_X13_finds x 0 (by decide)) (cwV 1 hts (lw_V q1238 q1240 qs47 q107 q1241) rfl rfl rfl (by decide +kernel) ⟨Nat.le_of_ble_eq_true rfl, Nat.le_of_ble_eq_true rfl⟩) hI hK (hw.recv hI hK (mf_main) rfl) rfl hl.1 rfl (Nat.le_of_ble_eq_true rfl) dX13_away_29 ⟨Nat.le_of_ble_eq_true rfl, Nat.le_of_ble_eq_true rfl⟩) hS (fun H1 locs1 hI hS => ?_)
      obtain ⟨x2, ex2⟩ : ∃ z, z = (fndM x 0) := ⟨_, rfl⟩
      rw [← ex2] at hI
      exact W.iret hx hb hr (fun t ht _ => ⟨rI (by first | (simp [a_away, aR, c_5, c_12]; done)), ⟨x2, (by refine jm_eq ?_; rw [ex2]; simp [a_away, aM, c_5, c_12]), by rw [ht]; exact hI⟩, hS.F ht⟩) hS.2.2 dX13_away_32
    · skip
      refine lv_iload_n hx hb dX13_away_15 rfl (lv_at hl 3 rfl) ?_
      refine lv_i2l (v := (n : Int32).toInt64) hx hb dX13_away_16 rfl ?_
      refine lv_lconst (v := 0) hx hb dX13_away_17 (by decide) ?_
      refine lv_ldc2 (v := 20) hx hb hown (hts _ q1447) dX13_away_18 ?_
      refine c_r (k_S (As := [.long ((n : Int32).toInt64), .long 0, .long 20]) (rest := []) F (k_X13_in n 0 20 ((n : Int32).toInt64 : Int64) (0 : Int64) (20 : Int64) rfl (by decide) (by decide)) (va_cwS 3 hts (lw_S q1227 q1228 q107 q1229) rfl rfl rfl (by decide +kernel) ⟨Nat.le_of_ble_eq_true rfl, Nat.le_of_ble_eq_true rfl⟩) rfl hl.1 rfl (Nat.le_of_ble_eq_true rfl) dX13_away_21 ⟨Nat.le_of_ble_eq_true rfl, Nat.le_of_ble_eq_true rfl⟩) ?_
      refine lv_if_ne (tgt := 33) hx hb dX13_away_24 (by decide) (fun c_24 => ?_) (fun c_24 => ?_)
      · skip
        obtain ⟨k, hk, eg⟩ := isGl_to hn h8 c_5
        have eg2 : g.toNatClampNeg = k := by rw [eg, nI_clamp (by omega)]
        obtain ⟨j0, hj0, en⟩ := inI_to (b := 20) rfl (by decide) c_24
        have en2 : n.toNatClampNeg = j0 := by rw [en, nI_clamp (by omega)]
        have hA0 : a_away (x.1 0) g t n = a_orN (x.1 0) (faI (x.1 0) k t j0) := by simp only [a_away, if_neg c_5, if_neg c_12, if_neg c_24, eg2, en2]
        subst eg
        subst en
        refine lv_aload_n hx hb dX13_away_33 rfl (lv_at hl 0 rfl) ?_
        refine r_get (C := RX13) (T := TX13) (N := 18) hx hb hts in_X13 hown hK hI (mf_main) rfl 0 (by decide) (hts _ q1164) (fun _ h => h) rfl dX13_away_34 ?_
        refine lv_aload_n hx hb dX13_away_37 rfl (lv_at hl 0 rfl) ?_
        refine r_get (C := RX13) (T := TX13) (N := 18) hx hb hts in_X13 hown hK hI (mf_main) rfl 2 (by decide) (hts _ q1166) (fun _ h => h) rfl dX13_away_38 ?_
        refine c_m (k_SI (As := [.ref (L 1), .ref (L 3)]) (rest := []) F (k_X13_copies (cf' := cfM D L (ys x 2 (x.1 0))) mf_d mf_aside (by decide) (ms_wn (w := 2) (by decide) (by decide) rfl)) (va_cwS 2 hts (lw_S q1391 q1392 q107 q1393) rfl rfl rfl (by decide +kernel) ⟨Nat.le_of_ble_eq_true rfl, Nat.le_of_ble_eq_true rfl⟩) hI hK rfl hl.1 rfl (Nat.le_of_ble_eq_true rfl) dX13_away_41 ⟨Nat.le_of_ble_eq_true rfl, Nat.le_of_ble_eq_true rfl⟩) hS (fun H1 locs1 hI hS => ?_)
        obtain ⟨x3, ex3⟩ : ∃ z, z = ys x 2 (x.1 0) := ⟨_, rfl⟩
        rw [← ex3] at hI
        refine lv_iconst (v := (-1)) hx hb dX13_away_44 (by decide) ?_
        refine lv_istore (lv' := [(4, .int (-1)), (0, .ref (L 0)), (1, .int (nI k)), (2, .int t), (3, .int (nI j0))]) hx hb dX13_away_45 hl (by decide) rfl (fun ls hl => ?_)
        refine lv_iconst (v := 0) hx hb dX13_away_47 (by decide) ?_
        refine lv_istore (lv' := [(5, .int 0), (4, .int (-1)), (0, .ref (L 0)), (1, .int (nI k)), (2, .int t), (3, .int (nI j0))]) hx hb dX13_away_48 hl (by decide) rfl (fun ls hl => ?_)
        have lp50 : ∀ (fuel : Nat) (v : Int32) (i : Nat), (i ≤ NN) → NN - i < fuel → ∀ (v4 : Int32) (v5 : Int32), v4 = (itr (faS (x.1 0) k t j0) (-1) i) → v5 = nI i → ∀ (xc50 : mst), xc50 = ys (ys x 2 (x.1 0)) 0 (u2 (x.1 0) 1 1 v) → ∀ (H : Heap) (locs : List Loc), hw D (cfM D L xc50) A H → va_S A s.heap H locs → ∀ (ls : Array Slot), lv_has ls 7 [(0, .ref (L 0)), (1, .int (nI k)), (2, .int t), (3, .int (nI j0)), (4, .int v4), (5, .int v5)] → W p l e ({ frames := 7, cells := 0, slots := 0, locals := 158 } : Room) s m ([.ref (L 0), .int (nI k), .int t, .int (nI j0)] : List Value).toArray below meth c H locs 0 0 (MQ below (jMQ D L (aM x (a_away (x.1 0) (nI k) t (nI j0))) A (some (.int (aR (a_away (x.1 0) (nI k) t (nI j0)))))) ([.ref (L 0), .int (nI k), .int t, .int (nI j0)] : List Value).toArray s 0 0 A) (F0 m 50 ls []) := by
          intro fuel
          induction fuel with
          | zero => intro v i hi hf; exact absurd hf (Nat.not_lt_zero _)
          | succ fuel ih50 =>
            intro v i hi hf50 v4 v5 e4 e5  xc50 exc50 H locs hI hS ls hl
            subst e4 e5
            have hA2 : (1 : Int32) <<< ((xc50.1 0 1 0) &&& 31) = nI NN := by rw [exc50, ys_at, u2_at, if_neg (by decide)]; exact hA
            refine lv_iload hx hb dX13_away_50 (lv_at hl 5 rfl) ?_
            refine lv_iconst (v := 1) hx hb dX13_away_52 (by decide) ?_
            refine lv_aload_n hx hb dX13_away_53 rfl (lv_at hl 0 rfl) ?_
            refine r_get (C := RX13) (T := TX13) (N := 18) hx hb hts in_X13 hown hK hI (mf_main) rfl 0 (by decide) (hts _ q1164) (fun _ h => h) rfl dX13_away_54 ?_
            refine lv_iconst (v := 0) hx hb dX13_away_57 (by decide) ?_
            refine n_ialdv (k := 0) (v := (xc50.1 0 1 0)) hx hb hK hI (mf_d) (rfl) (by decide) (by decide) (rfl) dX13_away_58 ?_
            refine lv_ishl hx hb dX13_away_59 ?_
            refine lv_icmp_ge (tgt := 156) hx hb dX13_away_60 (by decide) (fun c_60 => ?_) (fun c_60 => ?_)
            · skip
              have c_60 : NN ≤ i := (nle (a := NN) (b := i) (hA2) (rfl) (by omega) (by omega)).mp c_60
              refine lv_aload_n hx hb dX13_away_156 rfl (lv_at hl 0 rfl) ?_
              refine lv_iconst (v := 0) hx hb dX13_away_157 (by decide) ?_
              obtain ⟨x4, ex4⟩ : ∃ z, z = ys xc50 0 (u2 (xc50.1 0) 1 1 0) := ⟨_, rfl⟩
              refine r_put (C := RX13) (T := TX13) (N := 18) (cf' := cfM D L x4) hx hb hts in_X13 tyX13 tyX13_ok nmX13 hown hK hI hS (mf_main) rfl 8 (by decide) (hts _ q1172) (fun _ h => h) rfl (ty := .int) (by decide +kernel) rfl rfl (Nat.le_of_ble_eq_true rfl) (by rw [ex4]; exact ms_main rfl (fun k => ms_gone k) (fun _ _ => rfl)) dX13_away_158 (fun H1 locs1 hI hS => ?_)
              have hA9 : a_away (x.1 0) (nI k) t (nI j0) = a_orN (x.1 0) (itr (faS (x.1 0) k t j0) (-1) i) := by rw [hA0, faI, hNN, show i = NN by omega]
              have hjm : jm x x4 := by rw [ex4, exc50]; simp only [ys_at, ys_ys, u2_u2]; rw [← hgo, u2_self]; exact jm_ag _ _
              refine lv_iload hx hb dX13_away_161 (lv_at hl 4 rfl) ?_
              refine lv_if_ge (tgt := 174) hx hb dX13_away_163 (by decide) (fun c_163 => ?_) (fun c_163 => ?_)
              · skip
                have c_163 := Int32.not_lt.mpr c_163
                refine lv_iload hx hb dX13_away_174 (lv_at hl 4 rfl) ?_
                exact W.iret hx hb hr (fun t ht _ => ⟨rI (by rw [hA9, aR_orN]; first | (rw [wi_lt (by omega) (faS_in (x.1 0) k _ j0 i) c_163]; rfl) | (rw [orI, if_neg (fun q => c_163 (by rw [q]; decide))])), ⟨x4, (by rw [hA9, aM_orN]; first | (rw [wi_lt (by omega) (faS_in (x.1 0) k _ j0 i) c_163, orM, if_pos rfl, ex4]; exact jm_fnd hjm 3) | (rw [orM, if_neg (fun q => c_163 (by rw [q]; decide))]; exact hjm)), by rw [ht]; exact hI⟩, hS.F ht⟩) hS.2.2 dX13_away_176
              · skip
                have c_163 := Int32.not_le.mp c_163
                refine lv_aload_n hx hb dX13_away_166 rfl (lv_at hl 0 rfl) ?_
                refine lv_iconst (v := 3) hx hb dX13_away_167 (by decide) ?_
                refine c_m (k_V (As := [.int 3]) (rest := []) F (k_X13_finds x4 3 (by decide)) (cwV 1 hts (lw_V q1238 q1240 qs47 q107 q1241) rfl rfl rfl (by decide +kernel) ⟨Nat.le_of_ble_eq_true rfl, Nat.le_of_ble_eq_true rfl⟩) hI hK (hw.recv hI hK (mf_main) rfl) rfl hl.1 rfl (Nat.le_of_ble_eq_true rfl) dX13_away_168 ⟨Nat.le_of_ble_eq_true rfl, Nat.le_of_ble_eq_true rfl⟩) hS (fun H1 locs1 hI hS => ?_)
                obtain ⟨x5, ex5⟩ : ∃ z, z = (fndM x4 3) := ⟨_, rfl⟩
                rw [← ex5] at hI
                refine lv_goto (tgt := 176) hx hb dX13_away_171 (by decide) ?_
                exact W.iret hx hb hr (fun t ht _ => ⟨rI (by rw [hA9, aR_orN]; first | (rw [wi_lt (by omega) (faS_in (x.1 0) k _ j0 i) c_163]; rfl) | (rw [orI, if_neg (fun q => c_163 (by rw [q]; decide))])), ⟨x5, (by rw [hA9, aM_orN]; first | (rw [wi_lt (by omega) (faS_in (x.1 0) k _ j0 i) c_163, orM, if_pos rfl, ex5]; exact jm_fnd hjm 3) | (rw [orM, if_neg (fun q => c_163 (by rw [q]; decide))]; exact hjm)), by rw [ht]; exact hI⟩, hS.F ht⟩) hS.2.2 dX13_away_176
            · skip
              have c_60 : ¬ NN ≤ i := fun z => c_60 ((nle (a := NN) (b := i) (hA2) (rfl) (by omega) (by omega)).mpr z)
              refine lv_iload hx hb dX13_away_63 (lv_at hl 5 rfl) ?_
              refine lv_iload_n hx hb dX13_away_65 rfl (lv_at hl 1 rfl) ?_
              refine lv_ishr hx hb dX13_away_66 ?_
              refine lv_iconst (v := 1) hx hb dX13_away_67 (by decide) ?_
              refine lv_iand hx hb dX13_away_68 ?_
              refine lv_iconst (v := 1) hx hb dX13_away_69 (by decide) ?_
              refine lv_icmp_eq (tgt := 150) hx hb dX13_away_70 (by decide) (fun c_70 => ?_) (fun c_70 => ?_)
              · skip
                refine lv_iinc (v := (nI (i + 1))) (lv' := [(5, .int (nI (i + 1))), (0, .ref (L 0)), (1, .int (nI k)), (2, .int t), (3, .int (nI j0)), (4, .int (itr (faS (x.1 0) k t j0) (-1) i))]) hx hb dX13_away_150 hl (k := 5) rfl (nI_1 _) (by decide) rfl (fun ls hl => ?_)
                refine lv_goto (tgt := 50) hx hb dX13_away_153 (by decide) ?_
                exact ih50 (v) (i + 1) (by omega) (by omega) (itr (faS (x.1 0) k t j0) (-1) i) (nI (i + 1)) (by first | (rw [itr_s, faS, if_neg (hs_1.mpr c_70)]; done) | (simp only [hs_n0] at c_70; rw [itr_s, faS, if_pos c_70, if_neg hm1, if_neg c_88]; done) | (rw [hx3] at c_138; simp only [hs_n0] at c_70; rw [itr_s, faS, if_pos c_70, dk_m (by omega) (by omega)]; first | (rw [if_neg (hs_1.mpr c_138)]; first | rw [if_pos hm1] | rw [if_neg hm1, if_pos c_88]; done) | (rw [if_pos (hs_n0.mp c_138)]; first | rw [if_pos hm1] | rw [if_neg hm1, if_pos c_88]; done))) (rfl) xc50 (by first | exact exc50 | (rw [exc50]; simp only [ys_at, ys_ys, ys_c0, u2_u2, psn_1 _ _ 1 (show 1 ≠ 2 by decide)]; rw [u2_at, if_pos ⟨rfl, rfl⟩])) _ _ hI hS ls (lv_sub hl [1, 2, 3, 4, 5, 0] rfl)
              · skip
                refine lv_iload hx hb dX13_away_73 (lv_at hl 4 rfl) ?_
                refine lv_if_lt (tgt := 94) hx hb dX13_away_75 (by decide) (fun c_75 => ?_) (fun c_75 => ?_)
                · skip
                  have hm1 : (itr (faS (x.1 0) k t j0) (-1) i) = -1 := wi_lt (by omega) (faS_in (x.1 0) k t j0 i) c_75
                  refine lv_aload_n hx hb dX13_away_94 rfl (lv_at hl 0 rfl) ?_
                  refine lv_iload hx hb dX13_away_95 (lv_at hl 5 rfl) ?_
                  obtain ⟨x6, ex6⟩ : ∃ z, z = ys xc50 0 (u2 (xc50.1 0) 1 1 (nI i)) := ⟨_, rfl⟩
                  refine r_put (C := RX13) (T := TX13) (N := 18) (cf' := cfM D L x6) hx hb hts in_X13 tyX13 tyX13_ok nmX13 hown hK hI hS (mf_main) rfl 8 (by decide) (hts _ q1172) (fun _ h => h) rfl (ty := .int) (by decide +kernel) rfl rfl (Nat.le_of_ble_eq_true rfl) (by rw [ex6]; exact ms_main rfl (fun k => ms_gone k) (fun _ _ => rfl)) dX13_away_97 (fun H1 locs1 hI hS => ?_)
                  have hx1 : x6.1 0 = u2 (x.1 0) 1 1 (nI i) := by rw [ex6, ys_at, exc50, ys_at, u2_u2]
                  have hO_x6 : wOk (x6.1 0) := by rw [hx1]; exact wOk_g hO _
                  have hd_x6 : isN (x6.1 0 1 2) 10000 := by rw [hx1, u2_at, if_neg (by decide)]; exact hd
                  refine lv_aload_n hx hb dX13_away_100 rfl (lv_at hl 0 rfl) ?_
                  refine lv_iload_n hx hb dX13_away_101 rfl (lv_at hl 3 rfl) ?_
                  refine c_m (k_V (As := [.int (nI j0)]) (rest := []) F (k_X13_daysGo x6 (hO_x6) (hd_x6) j0 (by omega)) (cwV 1 hts (lw_V q1343 q1345 qs61 q107 q1346) rfl rfl rfl (by decide +kernel) ⟨Nat.le_of_ble_eq_true rfl, Nat.le_of_ble_eq_true rfl⟩) hI hK (hw.recv hI hK (mf_main) rfl) rfl hl.1 rfl (Nat.le_of_ble_eq_true rfl) dX13_away_102 ⟨Nat.le_of_ble_eq_true rfl, Nat.le_of_ble_eq_true rfl⟩) hS (fun H1 locs1 hI hS => ?_)
                  obtain ⟨x7, ex7⟩ : ∃ z, z = ys x6 0 (psn (x6.1 0) j0) := ⟨_, rfl⟩
                  rw [← ex7] at hI
                  have hx3 : x7.1 0 = psn (u2 (x.1 0) 1 1 (nI i)) j0 := by rw [ex7, ys_at, hx1]
                  refine lv_aload_n hx hb dX13_away_105 rfl (lv_at hl 0 rfl) ?_
                  refine lv_iload_n hx hb dX13_away_106 rfl (lv_at hl 1 rfl) ?_
                  refine lv_iconst (v := 3) hx hb dX13_away_107 (by decide) ?_
                  refine c_r (k_V (As := [.int (nI k), .int 3]) (rest := []) F (k_X13_its x7 (nI k) 3 k 3 (by omega) (by omega) rfl rfl) (cwV 2 hts (lw_V q1256 q1258 qs49 q107 q1259) rfl rfl rfl (by decide +kernel) ⟨Nat.le_of_ble_eq_true rfl, Nat.le_of_ble_eq_true rfl⟩) hI hK (hw.recv hI hK (mf_main) rfl) rfl hl.1 rfl (Nat.le_of_ble_eq_true rfl) dX13_away_108 ⟨Nat.le_of_ble_eq_true rfl, Nat.le_of_ble_eq_true rfl⟩) ?_
                  refine lv_aload_n hx hb dX13_away_111 rfl (lv_at hl 0 rfl) ?_
                  refine lv_iload_n hx hb dX13_away_112 rfl (lv_at hl 1 rfl) ?_
                  refine lv_iconst (v := 5) hx hb dX13_away_113 (by decide) ?_
                  refine c_r (k_V (As := [.int (nI k), .int 5]) (rest := [.int (x7.1 0 (2 + 3) k)]) F (k_X13_its x7 (nI k) 5 k 5 (by omega) (by omega) rfl rfl) (cwV 2 hts (lw_V q1256 q1258 qs49 q107 q1259) rfl rfl rfl (by decide +kernel) ⟨Nat.le_of_ble_eq_true rfl, Nat.le_of_ble_eq_true rfl⟩) hI hK (hw.recv hI hK (mf_main) rfl) rfl hl.1 rfl (Nat.le_of_ble_eq_true rfl) dX13_away_114 ⟨Nat.le_of_ble_eq_true rfl, Nat.le_of_ble_eq_true rfl⟩) ?_
                  refine lv_ior hx hb dX13_away_117 ?_
                  refine lv_istore (lv' := [(6, .int ((x7.1 0 (2 + 3) k) ||| (x7.1 0 (2 + 5) k))), (0, .ref (L 0)), (1, .int (nI k)), (2, .int t), (3, .int (nI j0)), (4, .int (itr (faS (x.1 0) k t j0) (-1) i)), (5, .int (nI i))]) hx hb dX13_away_118 hl (by decide) rfl (fun ls hl => ?_)
                  refine lv_aload_n hx hb dX13_away_120 rfl (lv_at hl 1 rfl) ?_
                  refine r_get (C := RX13) (T := TX13) (N := 18) hx hb hts in_X13 hown hK hI (mf_main) rfl 2 (by decide) (hts _ q1166) (fun _ h => h) rfl dX13_away_121 ?_
                  refine lv_aload_n hx hb dX13_away_124 rfl (lv_at hl 1 rfl) ?_
                  refine r_get (C := RX13) (T := TX13) (N := 18) hx hb hts in_X13 hown hK hI (mf_main) rfl 0 (by decide) (hts _ q1164) (fun _ h => h) rfl dX13_away_125 ?_
                  refine c_m (k_SI (As := [.ref (L 3), .ref (L 1)]) (rest := []) F (k_X13_copies (cf' := cfM D L (ys x7 0 (u2 (x7.1 2) 1 1 (x7.1 0 1 1)))) mf_aside mf_d (by decide) (ms_w (w := 0) (by decide) (mu_gone _ _) (by rw [u2_at, if_pos ⟨rfl, rfl⟩]))) (va_cwS 2 hts (lw_S q1391 q1392 q107 q1393) rfl rfl rfl (by decide +kernel) ⟨Nat.le_of_ble_eq_true rfl, Nat.le_of_ble_eq_true rfl⟩) hI hK rfl hl.1 rfl (Nat.le_of_ble_eq_true rfl) dX13_away_128 ⟨Nat.le_of_ble_eq_true rfl, Nat.le_of_ble_eq_true rfl⟩) hS (fun H1 locs1 hI hS => ?_)
                  obtain ⟨x8, ex8⟩ : ∃ z, z = ys x7 0 (u2 (x7.1 2) 1 1 (x7.1 0 1 1)) := ⟨_, rfl⟩
                  rw [← ex8] at hI
                  refine lv_iload hx hb dX13_away_131 (lv_at hl 0 rfl) ?_
                  refine lv_iload_n hx hb dX13_away_133 rfl (lv_at hl 3 rfl) ?_
                  refine lv_ishr hx hb dX13_away_134 ?_
                  refine lv_iconst (v := 1) hx hb dX13_away_135 (by decide) ?_
                  refine lv_iand hx hb dX13_away_136 ?_
                  refine lv_iconst (v := 1) hx hb dX13_away_137 (by decide) ?_
                  refine lv_icmp_ne (tgt := 146) hx hb dX13_away_138 (by decide) (fun c_138 => ?_) (fun c_138 => ?_)
                  · skip
                    refine lv_iload hx hb dX13_away_146 (lv_at hl 5 rfl) ?_
                    refine lv_istore (lv' := [(4, .int (itr (faS (x.1 0) k t j0) (-1) i)), (6, .int ((x7.1 0 (2 + 3) k) ||| (x7.1 0 (2 + 5) k))), (0, .ref (L 0)), (1, .int (nI k)), (2, .int t), (3, .int (nI j0)), (5, .int (nI i))]) hx hb dX13_away_148 hl (by decide) rfl (fun ls hl => ?_)
                    refine lv_iinc (v := (nI (i + 1))) (lv' := [(5, .int (nI (i + 1))), (4, .int (itr (faS (x.1 0) k t j0) (-1) i)), (6, .int ((x7.1 0 (2 + 3) k) ||| (x7.1 0 (2 + 5) k))), (0, .ref (L 0)), (1, .int (nI k)), (2, .int t), (3, .int (nI j0))]) hx hb dX13_away_150 hl (k := 6) rfl (nI_1 _) (by decide) rfl (fun ls hl => ?_)
                    refine lv_goto (tgt := 50) hx hb dX13_away_153 (by decide) ?_
                    exact ih50 (nI i) (i + 1) (by omega) (by omega) (itr (faS (x.1 0) k t j0) (-1) i) (nI (i + 1)) (by first | (rw [itr_s, faS, if_neg (hs_1.mpr c_70)]; done) | (simp only [hs_n0] at c_70; rw [itr_s, faS, if_pos c_70, if_neg hm1, if_neg c_88]; done) | (rw [hx3] at c_138; simp only [hs_n0] at c_70; rw [itr_s, faS, if_pos c_70, dk_m (by omega) (by omega)]; first | (rw [if_neg (hs_1.mpr c_138)]; first | rw [if_pos hm1] | rw [if_neg hm1, if_pos c_88]; done) | (rw [if_pos (hs_n0.mp c_138)]; first | rw [if_pos hm1] | rw [if_neg hm1, if_pos c_88]; done))) (rfl) x8 (by first | exact exc50 | (rw [ex8, ex7, ex6, exc50]; simp only [ys_at, ys_ys, ys_c0, u2_u2, psn_1 _ _ 1 (show 1 ≠ 2 by decide)]; rw [u2_at, if_pos ⟨rfl, rfl⟩])) _ _ hI hS ls (lv_sub hl [3, 4, 5, 6, 1, 0] rfl)
                  · skip
                    refine lv_iload hx hb dX13_away_141 (lv_at hl 6 rfl) ?_
                    refine lv_goto (tgt := 148) hx hb dX13_away_143 (by decide) ?_
                    refine lv_istore (lv' := [(4, .int (nI i)), (6, .int ((x7.1 0 (2 + 3) k) ||| (x7.1 0 (2 + 5) k))), (0, .ref (L 0)), (1, .int (nI k)), (2, .int t), (3, .int (nI j0)), (5, .int (nI i))]) hx hb dX13_away_148 hl (by decide) rfl (fun ls hl => ?_)
                    refine lv_iinc (v := (nI (i + 1))) (lv' := [(5, .int (nI (i + 1))), (4, .int (nI i)), (6, .int ((x7.1 0 (2 + 3) k) ||| (x7.1 0 (2 + 5) k))), (0, .ref (L 0)), (1, .int (nI k)), (2, .int t), (3, .int (nI j0))]) hx hb dX13_away_150 hl (k := 6) rfl (nI_1 _) (by decide) rfl (fun ls hl => ?_)
                    refine lv_goto (tgt := 50) hx hb dX13_away_153 (by decide) ?_
                    exact ih50 (nI i) (i + 1) (by omega) (by omega) (nI i) (nI (i + 1)) (by first | (rw [itr_s, faS, if_neg (hs_1.mpr c_70)]; done) | (simp only [hs_n0] at c_70; rw [itr_s, faS, if_pos c_70, if_neg hm1, if_neg c_88]; done) | (rw [hx3] at c_138; simp only [hs_n0] at c_70; rw [itr_s, faS, if_pos c_70, dk_m (by omega) (by omega)]; first | (rw [if_neg (hs_1.mpr c_138)]; first | rw [if_pos hm1] | rw [if_neg hm1, if_pos c_88]; done) | (rw [if_pos (hs_n0.mp c_138)]; first | rw [if_pos hm1] | rw [if_neg hm1, if_pos c_88]; done))) (rfl) x8 (by first | exact exc50 | (rw [ex8, ex7, ex6, exc50]; simp only [ys_at, ys_ys, ys_c0, u2_u2, psn_1 _ _ 1 (show 1 ≠ 2 by decide)]; rw [u2_at, if_pos ⟨rfl, rfl⟩])) _ _ hI hS ls (lv_sub hl [3, 4, 5, 6, 1, 0] rfl)
                · skip
                  have hm1 : ¬ (itr (faS (x.1 0) k t j0) (-1) i) = -1 := fun q => c_75 (by rw [q]; decide)
                  obtain ⟨j, hj, ej⟩ := (faS_in (x.1 0) k t j0 i).resolve_left hm1
                  refine lv_iload hx hb dX13_away_78 (lv_at hl 5 rfl) ?_
                  refine c_r (k_S (As := [.int (nI i)]) (rest := []) F (k_X13_ones (nI i) (⟨i, by omega, rfl⟩)) (va_cwS 1 hts (lw_S q1363 q1364 q107 q1365) rfl rfl rfl (by decide +kernel) ⟨Nat.le_of_ble_eq_true rfl, Nat.le_of_ble_eq_true rfl⟩) rfl hl.1 rfl (Nat.le_of_ble_eq_true rfl) dX13_away_80 ⟨Nat.le_of_ble_eq_true rfl, Nat.le_of_ble_eq_true rfl⟩) ?_
                  refine lv_iload hx hb dX13_away_83 (lv_at hl 4 rfl) ?_
                  refine c_r (k_S (As := [.int (itr (faS (x.1 0) k t j0) (-1) i)]) (rest := [.int (bcI (nI i))]) F (k_X13_ones (itr (faS (x.1 0) k t j0) (-1) i) (⟨j, by omega, ej⟩)) (va_cwS 1 hts (lw_S q1363 q1364 q107 q1365) rfl rfl rfl (by decide +kernel) ⟨Nat.le_of_ble_eq_true rfl, Nat.le_of_ble_eq_true rfl⟩) rfl hl.1 rfl (Nat.le_of_ble_eq_true rfl) dX13_away_85 ⟨Nat.le_of_ble_eq_true rfl, Nat.le_of_ble_eq_true rfl⟩) ?_
                  refine lv_icmp_lt (tgt := 94) hx hb dX13_away_88 (by decide) (fun c_88 => ?_) (fun c_88 => ?_)
                  · skip
                    refine lv_aload_n hx hb dX13_away_94 rfl (lv_at hl 0 rfl) ?_
                    refine lv_iload hx hb dX13_away_95 (lv_at hl 5 rfl) ?_
                    obtain ⟨x9, ex9⟩ : ∃ z, z = ys xc50 0 (u2 (xc50.1 0) 1 1 (nI i)) := ⟨_, rfl⟩
                    refine r_put (C := RX13) (T := TX13) (N := 18) (cf' := cfM D L x9) hx hb hts in_X13 tyX13 tyX13_ok nmX13 hown hK hI hS (mf_main) rfl 8 (by decide) (hts _ q1172) (fun _ h => h) rfl (ty := .int) (by decide +kernel) rfl rfl (Nat.le_of_ble_eq_true rfl) (by rw [ex9]; exact ms_main rfl (fun k => ms_gone k) (fun _ _ => rfl)) dX13_away_97 (fun H1 locs1 hI hS => ?_)
                    have hx1 : x9.1 0 = u2 (x.1 0) 1 1 (nI i) := by rw [ex9, ys_at, exc50, ys_at, u2_u2]
                    have hO_x9 : wOk (x9.1 0) := by rw [hx1]; exact wOk_g hO _
                    have hd_x9 : isN (x9.1 0 1 2) 10000 := by rw [hx1, u2_at, if_neg (by decide)]; exact hd
                    refine lv_aload_n hx hb dX13_away_100 rfl (lv_at hl 0 rfl) ?_
                    refine lv_iload_n hx hb dX13_away_101 rfl (lv_at hl 3 rfl) ?_
                    refine c_m (k_V (As := [.int (nI j0)]) (rest := []) F (k_X13_daysGo x9 (hO_x9) (hd_x9) j0 (by omega)) (cwV 1 hts (lw_V q1343 q1345 qs61 q107 q1346) rfl rfl rfl (by decide +kernel) ⟨Nat.le_of_ble_eq_true rfl, Nat.le_of_ble_eq_true rfl⟩) hI hK (hw.recv hI hK (mf_main) rfl) rfl hl.1 rfl (Nat.le_of_ble_eq_true rfl) dX13_away_102 ⟨Nat.le_of_ble_eq_true rfl, Nat.le_of_ble_eq_true rfl⟩) hS (fun H1 locs1 hI hS => ?_)
                    obtain ⟨x10, ex10⟩ : ∃ z, z = ys x9 0 (psn (x9.1 0) j0) := ⟨_, rfl⟩
                    rw [← ex10] at hI
                    have hx3 : x10.1 0 = psn (u2 (x.1 0) 1 1 (nI i)) j0 := by rw [ex10, ys_at, hx1]
                    refine lv_aload_n hx hb dX13_away_105 rfl (lv_at hl 0 rfl) ?_
                    refine lv_iload_n hx hb dX13_away_106 rfl (lv_at hl 1 rfl) ?_
                    refine lv_iconst (v := 3) hx hb dX13_away_107 (by decide) ?_
                    refine c_r (k_V (As := [.int (nI k), .int 3]) (rest := []) F (k_X13_its x10 (nI k) 3 k 3 (by omega) (by omega) rfl rfl) (cwV 2 hts (lw_V q1256 q1258 qs49 q107 q1259) rfl rfl rfl (by decide +kernel) ⟨Nat.le_of_ble_eq_true rfl, Nat.le_of_ble_eq_true rfl⟩) hI hK (hw.recv hI hK (mf_main) rfl) rfl hl.1 rfl (Nat.le_of_ble_eq_true rfl) dX13_away_108 ⟨Nat.le_of_ble_eq_true rfl, Nat.le_of_ble_eq_true rfl⟩) ?_
                    refine lv_aload_n hx hb dX13_away_111 rfl (lv_at hl 0 rfl) ?_
                    refine lv_iload_n hx hb dX13_away_112 rfl (lv_at hl 1 rfl) ?_
                    refine lv_iconst (v := 5) hx hb dX13_away_113 (by decide) ?_
                    refine c_r (k_V (As := [.int (nI k), .int 5]) (rest := [.int (x10.1 0 (2 + 3) k)]) F (k_X13_its x10 (nI k) 5 k 5 (by omega) (by omega) rfl rfl) (cwV 2 hts (lw_V q1256 q1258 qs49 q107 q1259) rfl rfl rfl (by decide +kernel) ⟨Nat.le_of_ble_eq_true rfl, Nat.le_of_ble_eq_true rfl⟩) hI hK (hw.recv hI hK (mf_main) rfl) rfl hl.1 rfl (Nat.le_of_ble_eq_true rfl) dX13_away_114 ⟨Nat.le_of_ble_eq_true rfl, Nat.le_of_ble_eq_true rfl⟩) ?_
                    refine lv_ior hx hb dX13_away_117 ?_
                    refine lv_istore (lv' := [(6, .int ((x10.1 0 (2 + 3) k) ||| (x10.1 0 (2 + 5) k))), (0, .ref (L 0)), (1, .int (nI k)), (2, .int t), (3, .int (nI j0)), (4, .int (itr (faS (x.1 0) k t j0) (-1) i)), (5, .int (nI i))]) hx hb dX13_away_118 hl (by decide) rfl (fun ls hl => ?_)
                    refine lv_aload_n hx hb dX13_away_120 rfl (lv_at hl 1 rfl) ?_
                    refine r_get (C := RX13) (T := TX13) (N := 18) hx hb hts in_X13 hown hK hI (mf_main) rfl 2 (by decide) (hts _ q1166) (fun _ h => h) rfl dX13_away_121 ?_
                    refine lv_aload_n hx hb dX13_away_124 rfl (lv_at hl 1 rfl) ?_
                    refine r_get (C := RX13) (T := TX13) (N := 18) hx hb hts in_X13 hown hK hI (mf_main) rfl 0 (by decide) (hts _ q1164) (fun _ h => h) rfl dX13_away_125 ?_
                    refine c_m (k_SI (As := [.ref (L 3), .ref (L 1)]) (rest := []) F (k_X13_copies (cf' := cfM D L (ys x10 0 (u2 (x10.1 2) 1 1 (x10.1 0 1 1)))) mf_aside mf_d (by decide) (ms_w (w := 0) (by decide) (mu_gone _ _) (by rw [u2_at, if_pos ⟨rfl, rfl⟩]))) (va_cwS 2 hts (lw_S q1391 q1392 q107 q1393) rfl rfl rfl (by decide +kernel) ⟨Nat.le_of_ble_eq_true rfl, Nat.le_of_ble_eq_true rfl⟩) hI hK rfl hl.1 rfl (Nat.le_of_ble_eq_true rfl) dX13_away_128 ⟨Nat.le_of_ble_eq_true rfl, Nat.le_of_ble_eq_true rfl⟩) hS (fun H1 locs1 hI hS => ?_)
                    obtain ⟨x11, ex11⟩ : ∃ z, z = ys x10 0 (u2 (x10.1 2) 1 1 (x10.1 0 1 1)) := ⟨_, rfl⟩
                    rw [← ex11] at hI
                    refine lv_iload hx hb dX13_away_131 (lv_at hl 0 rfl) ?_
                    refine lv_iload_n hx hb dX13_away_133 rfl (lv_at hl 3 rfl) ?_
                    refine lv_ishr hx hb dX13_away_134 ?_
                    refine lv_iconst (v := 1) hx hb dX13_away_135 (by decide) ?_
                    refine lv_iand hx hb dX13_away_136 ?_
                    refine lv_iconst (v := 1) hx hb dX13_away_137 (by decide) ?_
                    refine lv_icmp_ne (tgt := 146) hx hb dX13_away_138 (by decide) (fun c_138 => ?_) (fun c_138 => ?_)
                    · skip
                      refine lv_iload hx hb dX13_away_146 (lv_at hl 5 rfl) ?_
                      refine lv_istore (lv' := [(4, .int (itr (faS (x.1 0) k t j0) (-1) i)), (6, .int ((x10.1 0 (2 + 3) k) ||| (x10.1 0 (2 + 5) k))), (0, .ref (L 0)), (1, .int (nI k)), (2, .int t), (3, .int (nI j0)), (5, .int (nI i))]) hx hb dX13_away_148 hl (by decide) rfl (fun ls hl => ?_)
                      refine lv_iinc (v := (nI (i + 1))) (lv' := [(5, .int (nI (i + 1))), (4, .int (itr (faS (x.1 0) k t j0) (-1) i)), (6, .int ((x10.1 0 (2 + 3) k) ||| (x10.1 0 (2 + 5) k))), (0, .ref (L 0)), (1, .int (nI k)), (2, .int t), (3, .int (nI j0))]) hx hb dX13_away_150 hl (k := 6) rfl (nI_1 _) (by decide) rfl (fun ls hl => ?_)
                      refine lv_goto (tgt := 50) hx hb dX13_away_153 (by decide) ?_
                      exact ih50 (nI i) (i + 1) (by omega) (by omega) (itr (faS (x.1 0) k t j0) (-1) i) (nI (i + 1)) (by first | (rw [itr_s, faS, if_neg (hs_1.mpr c_70)]; done) | (simp only [hs_n0] at c_70; rw [itr_s, faS, if_pos c_70, if_neg hm1, if_neg c_88]; done) | (rw [hx3] at c_138; simp only [hs_n0] at c_70; rw [itr_s, faS, if_pos c_70, dk_m (by omega) (by omega)]; first | (rw [if_neg (hs_1.mpr c_138)]; first | rw [if_pos hm1] | rw [if_neg hm1, if_pos c_88]; done) | (rw [if_pos (hs_n0.mp c_138)]; first | rw [if_pos hm1] | rw [if_neg hm1, if_pos c_88]; done))) (rfl) x11 (by first | exact exc50 | (rw [ex11, ex10, ex9, exc50]; simp only [ys_at, ys_ys, ys_c0, u2_u2, psn_1 _ _ 1 (show 1 ≠ 2 by decide)]; rw [u2_at, if_pos ⟨rfl, rfl⟩])) _ _ hI hS ls (lv_sub hl [3, 4, 5, 6, 1, 0] rfl)
                    · skip
                      refine lv_iload hx hb dX13_away_141 (lv_at hl 6 rfl) ?_
                      refine lv_goto (tgt := 148) hx hb dX13_away_143 (by decide) ?_
                      refine lv_istore (lv' := [(4, .int (nI i)), (6, .int ((x10.1 0 (2 + 3) k) ||| (x10.1 0 (2 + 5) k))), (0, .ref (L 0)), (1, .int (nI k)), (2, .int t), (3, .int (nI j0)), (5, .int (nI i))]) hx hb dX13_away_148 hl (by decide) rfl (fun ls hl => ?_)
                      refine lv_iinc (v := (nI (i + 1))) (lv' := [(5, .int (nI (i + 1))), (4, .int (nI i)), (6, .int ((x10.1 0 (2 + 3) k) ||| (x10.1 0 (2 + 5) k))), (0, .ref (L 0)), (1, .int (nI k)), (2, .int t), (3, .int (nI j0))]) hx hb dX13_away_150 hl (k := 6) rfl (nI_1 _) (by decide) rfl (fun ls hl => ?_)
                      refine lv_goto (tgt := 50) hx hb dX13_away_153 (by decide) ?_
                      exact ih50 (nI i) (i + 1) (by omega) (by omega) (nI i) (nI (i + 1)) (by first | (rw [itr_s, faS, if_neg (hs_1.mpr c_70)]; done) | (simp only [hs_n0] at c_70; rw [itr_s, faS, if_pos c_70, if_neg hm1, if_neg c_88]; done) | (rw [hx3] at c_138; simp only [hs_n0] at c_70; rw [itr_s, faS, if_pos c_70, dk_m (by omega) (by omega)]; first | (rw [if_neg (hs_1.mpr c_138)]; first | rw [if_pos hm1] | rw [if_neg hm1, if_pos c_88]; done) | (rw [if_pos (hs_n0.mp c_138)]; first | rw [if_pos hm1] | rw [if_neg hm1, if_pos c_88]; done))) (rfl) x11 (by first | exact exc50 | (rw [ex11, ex10, ex9, exc50]; simp only [ys_at, ys_ys, ys_c0, u2_u2, psn_1 _ _ 1 (show 1 ≠ 2 by decide)]; rw [u2_at, if_pos ⟨rfl, rfl⟩])) _ _ hI hS ls (lv_sub hl [3, 4, 5, 6, 1, 0] rfl)
                  · skip
                    refine lv_goto (tgt := 150) hx hb dX13_away_91 (by decide) ?_
                    refine lv_iinc (v := (nI (i + 1))) (lv' := [(5, .int (nI (i + 1))), (0, .ref (L 0)), (1, .int (nI k)), (2, .int t), (3, .int (nI j0)), (4, .int (itr (faS (x.1 0) k t j0) (-1) i))]) hx hb dX13_away_150 hl (k := 5) rfl (nI_1 _) (by decide) rfl (fun ls hl => ?_)
                    refine lv_goto (tgt := 50) hx hb dX13_away_153 (by decide) ?_
                    exact ih50 (v) (i + 1) (by omega) (by omega) (itr (faS (x.1 0) k t j0) (-1) i) (nI (i + 1)) (by first | (rw [itr_s, faS, if_neg (hs_1.mpr c_70)]; done) | (simp only [hs_n0] at c_70; rw [itr_s, faS, if_pos c_70, if_neg hm1, if_neg c_88]; done) | (rw [hx3] at c_138; simp only [hs_n0] at c_70; rw [itr_s, faS, if_pos c_70, dk_m (by omega) (by omega)]; first | (rw [if_neg (hs_1.mpr c_138)]; first | rw [if_pos hm1] | rw [if_neg hm1, if_pos c_88]; done) | (rw [if_pos (hs_n0.mp c_138)]; first | rw [if_pos hm1] | rw [if_neg hm1, if_pos c_88]; done))) (rfl) xc50 (by first | exact exc50 | (rw [exc50]; simp only [ys_at, ys_ys, ys_c0, u2_u2, psn_1 _ _ 1 (show 1 ≠ 2 by decide)]; rw [u2_at, if_pos ⟨rfl, rfl⟩])) _ _ hI hS ls (lv_sub hl [1, 2, 3, 4, 5, 0] rfl)
        exact lp50 (_ + 1) (x.1 0 1 1) (0) (Nat.zero_le _) (Nat.lt_succ_self _) (-1) 0 (rfl) (rfl) x3 (by rw [ex3, u2_self]; exact (ys_20 x).symm) _ _ hI hS ls (lv_sub hl [2, 3, 4, 5, 1, 0] rfl)
      · skip
        refine lv_aload_n hx hb dX13_away_27 rfl (lv_at hl 0 rfl) ?_
        refine lv_iconst (v := 0) hx hb dX13_away_28 (by decide) ?_
        refine c_m (k_V (As := [.int 0]) (rest := []) F (k_X13_finds x 0 (by decide)) (cwV 1 hts (lw_V q1238 q1240 qs47 q107 q1241) rfl rfl rfl (by decide +kernel) ⟨Nat.le_of_ble_eq_true rfl, Nat.le_of_ble_eq_true rfl⟩) hI hK (hw.recv hI hK (mf_main) rfl) rfl hl.1 rfl (Nat.le_of_ble_eq_true rfl) dX13_away_29 ⟨Nat.le_of_ble_eq_true rfl, Nat.le_of_ble_eq_true rfl⟩) hS (fun H1 locs1 hI hS => ?_)
        obtain ⟨x12, ex12⟩ : ∃ z, z = (fndM x 0) := ⟨_, rfl⟩
        rw [← ex12] at hI
        exact W.iret hx hb hr (fun t ht _ => ⟨rI (by first | (simp [a_away, aR, c_5, c_12, c_24]; done)), ⟨x12, (by refine jm_eq ?_; rw [ex12]; simp [a_away, aM, c_5, c_12, c_24]), by rw [ht]; exact hI⟩, hS.F ht⟩) hS.2.2 dX13_away_32
theorem k_X13_drawOne {l : Launch} {D : va_G} {L : Nat → Nat} {A : Nat → Prop} (x : mst) : Met l yX13_drawOne (ws_ yX13_drawOne cX13_drawOne 1 (some .int)) ({ frames := 0, cells := 0, slots := 0, locals := 0 } : Room) (va_Pc [.ref (L 0)] (pI D (cfM D L x) A)) (nQ D (cfM D L (ys x 0 (dr1 (x.1 0)))) A (some (.int (drI (dzI (x.1 0 1 3)))))) 0 0 A := by
  refine met_I (by decide) rfl (Nat.le_of_ble_eq_true rfl) ?_
  intro p e s m below meth c ls hx hb hr hml hown hts hlocks hl hI hK
  have F : CallFix p m c cX13_drawOne 1 s _ lw_all RX13 := ⟨hx, hb, hml, hown, hts⟩
  have hl : lv_has ls 1 [(0, .ref (L 0))] := hl
  have hS : va_S A s.heap s.heap [] := va_S.rf
  refine lv_aload_n hx hb dX13_drawOne_0 rfl (lv_at hl 0 rfl) ?_
  refine r_get (C := RX13) (T := TX13) (N := 18) hx hb hts in_X13 hown hK hI (mf_main) rfl 0 (by decide) (hts _ q1164) (fun _ h => h) rfl dX13_drawOne_1 ?_
  refine lv_iconst (v := 2) hx hb dX13_drawOne_4 (by decide) ?_
  refine lv_aload_n hx hb dX13_drawOne_5 rfl (lv_at hl 0 rfl) ?_
  refine r_get (C := RX13) (T := TX13) (N := 18) hx hb hts in_X13 hown hK hI (mf_main) rfl 0 (by decide) (hts _ q1164) (fun _ h => h) rfl dX13_drawOne_6 ?_
  refine lv_iconst (v := 2) hx hb dX13_drawOne_9 (by decide) ?_
  refine n_ialdv (k := 2) (v := (x.1 0 1 3)) hx hb hK hI (mf_d) (rfl) (by decide) (by decide) (rfl) dX13_drawOne_10 ?_
  refine lv_ldc (v := 1103515245) hx hb hown (hts _ q1479) dX13_drawOne_11 ?_
  refine lv_imul hx hb dX13_drawOne_13 ?_
  refine lv_sipush (v := 12345) hx hb dX13_drawOne_14 (by decide) ?_
  refine lv_iadd hx hb dX13_drawOne_17 ?_
  obtain ⟨x1, ex1⟩ : ∃ z, z = ys x 0 (u2 (x.1 0) 1 3 (((x.1 0 1 3) * (1103515245 : Int32)) + (12345 : Int32))) := ⟨_, rfl⟩
  refine n_iast (cf' := cfM D L x1) (k := 2) hx hb hK hI hS (mf_d) (rfl) (by decide) (by decide) (by rw [ex1]; exact ms_w (w := 0) (by decide) (mu_sc _ 3 2 _ (by decide)) (by rw [u2_at, if_neg (by decide)])) dX13_drawOne_18 (fun H1 locs1 hI hS => ?_)
  refine lv_aload_n hx hb dX13_drawOne_19 rfl (lv_at hl 0 rfl) ?_
  refine r_get (C := RX13) (T := TX13) (N := 18) hx hb hts in_X13 hown hK hI (mf_main) rfl 0 (by decide) (hts _ q1164) (fun _ h => h) rfl dX13_drawOne_20 ?_
  refine lv_iconst (v := 2) hx hb dX13_drawOne_23 (by decide) ?_
  refine n_ialdv (k := 2) (v := (x1.1 0 1 3)) hx hb hK hI (mf_d) (rfl) (by decide) (by decide) (rfl) dX13_drawOne_24 ?_
  refine lv_bipush (v := 8) hx hb dX13_drawOne_25 (by decide) ?_
  refine lv_iushr (v := ((x1.1 0 1 3).toUInt32 >>> ((8 : Int32).toUInt32 &&& Int32.toUInt32 31)).toInt32) hx hb dX13_drawOne_27 rfl ?_
  exact W.iret hx hb hr (fun t ht _ => ⟨rI (by rw [ex1, ys_at, u2_at, if_pos ⟨rfl, rfl⟩]; rfl), by rw [ht]; exact hw_eq hI (congrArg (cfM D L) (by rw [ex1]; rfl)), hS.F ht⟩) hS.2.2 dX13_drawOne_28
theorem k_X13_talk {l : Launch} {D : va_G} {L : Nat → Nat} {A : Nat → Prop} (x : mst) (hO : wOk (x.1 0)) (hd : isN (x.1 0 1 2) 10000) (n : Int32) : Met l yX13_talk (ws_ yX13_talk cX13_talk 6 (some .int)) ({ frames := 6, cells := 0, slots := 0, locals := 136 } : Room) (va_Pc [.ref (L 0), .int n] (pI D (cfM D L x) A)) (nQ D (cfM D L (aM x (a_talk (x.1 0) n))) A (some (.int (aR (a_talk (x.1 0) n))))) 0 0 A := by
  refine met_I (by decide) rfl (Nat.le_of_ble_eq_true rfl) ?_
  intro p e s m below meth c ls hx hb hr hml hown hts hlocks hl hI hK
  have F : CallFix p m c cX13_talk 6 s _ lw_all RX13 := ⟨hx, hb, hml, hown, hts⟩
  have hl : lv_has ls 6 [(0, .ref (L 0)), (1, .int n)] := hl
  have hS : va_S A s.heap s.heap [] := va_S.rf
  refine lv_iload_n hx hb dX13_talk_0 rfl (lv_at hl 1 rfl) ?_
  refine lv_i2l (v := (n : Int32).toInt64) hx hb dX13_talk_1 rfl ?_
  refine lv_lconst (v := 1) hx hb dX13_talk_2 (by decide) ?_
  refine lv_ldc2 (v := 20) hx hb hown (hts _ q1447) dX13_talk_3 ?_
  refine c_r (k_S (As := [.long ((n : Int32).toInt64), .long 1, .long 20]) (rest := []) F (k_X13_in n 1 20 ((n : Int32).toInt64 : Int64) (1 : Int64) (20 : Int64) rfl (by decide) (by decide)) (va_cwS 3 hts (lw_S q1227 q1228 q107 q1229) rfl rfl rfl (by decide +kernel) ⟨Nat.le_of_ble_eq_true rfl, Nat.le_of_ble_eq_true rfl⟩) rfl hl.1 rfl (Nat.le_of_ble_eq_true rfl) dX13_talk_6 ⟨Nat.le_of_ble_eq_true rfl, Nat.le_of_ble_eq_true rfl⟩) ?_
  refine lv_if_ne (tgt := 18) hx hb dX13_talk_9 (by decide) (fun c_9 => ?_) (fun c_9 => ?_)
  · skip
    obtain ⟨k, hk1, hk, en⟩ := inI_to1 (a := 1) (b := 20) rfl rfl (by decide) (by decide) c_9
    have en2 : n.toNatClampNeg = k := by rw [en, nI_clamp (by omega)]
    subst en
    refine lv_aload_n hx hb dX13_talk_18 rfl (lv_at hl 0 rfl) ?_
    refine r_get (C := RX13) (T := TX13) (N := 18) hx hb hts in_X13 hown hK hI (mf_main) rfl 0 (by decide) (hts _ q1164) (fun _ h => h) rfl dX13_talk_19 ?_
    refine lv_iconst (v := 1) hx hb dX13_talk_22 (by decide) ?_
    refine n_ialdv (k := 1) (v := (x.1 0 1 2)) hx hb hK hI (mf_d) (rfl) (by decide) (by decide) (rfl) dX13_talk_23 ?_
    refine lv_iload_n hx hb dX13_talk_24 rfl (lv_at hl 1 rfl) ?_
    refine lv_iadd hx hb dX13_talk_25 ?_
    refine lv_ldc (v := 99999) hx hb hown (hts _ q1342) dX13_talk_26 ?_
    refine lv_icmp_le (tgt := 37) hx hb dX13_talk_28 (by decide) (fun c_28 => ?_) (fun c_28 => ?_)
    · skip
      have c_28 := Int32.not_lt.mpr c_28
      refine lv_iconst (v := 0) hx hb dX13_talk_37 (by decide) ?_
      refine lv_istore_n (lv' := [(2, .int 0), (0, .ref (L 0)), (1, .int (nI k))]) hx hb dX13_talk_38 rfl hl (by decide) rfl (fun ls hl => ?_)
      have lp39 : ∀ (fuel : Nat) (i : Nat), (i ≤ k) → k - i < fuel → ∀ (v2 : Int32), v2 = nI i → ∀ (xc39 : mst), xc39 = ys x 0 (tkn (x.1 0) i) → ∀ (H : Heap) (locs : List Loc), hw D (cfM D L xc39) A H → va_S A s.heap H locs → ∀ (ls : Array Slot), lv_has ls 6 [(0, .ref (L 0)), (1, .int (nI k)), (2, .int v2)] → W p l e ({ frames := 6, cells := 0, slots := 0, locals := 136 } : Room) s m ([.ref (L 0), .int (nI k)] : List Value).toArray below meth c H locs 0 0 (MQ below (nQ D (cfM D L (aM x (a_talk (x.1 0) (nI k)))) A (some (.int (aR (a_talk (x.1 0) (nI k)))))) ([.ref (L 0), .int (nI k)] : List Value).toArray s 0 0 A) (F0 m 39 ls []) := by
        intro fuel
        induction fuel with
        | zero => intro i hi hf; exact absurd hf (Nat.not_lt_zero _)
        | succ fuel ih39 =>
          intro i hi hf39 v2 e2  xc39 exc39 H locs hI hS ls hl
          subst e2
          have hO_xc39 : wOk (xc39.1 0) := by rw [exc39, ys_at]; exact wOk_tkn hO hd i (by omega)
          obtain ⟨δ, hδ, hdd⟩ := hO_xc39.2.2.2.1
          have hd0 : isN (xc39.1 0 1 2) 99999 := by rw [exc39, ys_at]; exact isN_tkn hd (by omega)
          refine lv_iload_n hx hb dX13_talk_39 rfl (lv_at hl 2 rfl) ?_
          refine lv_iload_n hx hb dX13_talk_40 rfl (lv_at hl 1 rfl) ?_
          refine lv_icmp_ge (tgt := 110) hx hb dX13_talk_41 (by decide) (fun c_41 => ?_) (fun c_41 => ?_)
          · skip
            have c_41 : k ≤ i := (nle (a := k) (b := i) (rfl) (rfl) (by omega) (by omega)).mp c_41
            refine lv_aload_n hx hb dX13_talk_110 rfl (lv_at hl 0 rfl) ?_
            refine c_r (k_V (As := []) (rest := []) F (k_X13_allKnow xc39 (hO_xc39)) (cwV 0 hts (lw_V q1366 q1368 qs66 q107 q1369) rfl rfl rfl (by decide +kernel) ⟨Nat.le_of_ble_eq_true rfl, Nat.le_of_ble_eq_true rfl⟩) hI hK (hw.recv hI hK (mf_main) rfl) rfl hl.1 rfl (Nat.le_of_ble_eq_true rfl) dX13_talk_111 ⟨Nat.le_of_ble_eq_true rfl, Nat.le_of_ble_eq_true rfl⟩) ?_
            exact W.iret hx hb hr (fun t ht _ => ⟨rI (by rw [exc39, ys_at, show i = k by omega]; simp [a_talk, aR, ltI, c_9, c_28, en2]), by rw [ht]; exact hw_eq hI (congrArg (cfM D L) (by rw [exc39, show i = k by omega]; simp [a_talk, aM, ltI, c_9, c_28, en2])), hS.F ht⟩) hS.2.2 dX13_talk_114
          · skip
            have c_41 : ¬ k ≤ i := fun z => c_41 ((nle (a := k) (b := i) (rfl) (rfl) (by omega) (by omega)).mpr z)
            refine lv_aload_n hx hb dX13_talk_44 rfl (lv_at hl 0 rfl) ?_
            refine c_m (k_V (As := []) (rest := []) F (k_X13_drawOne xc39) (cwV 0 hts (lw_V q1475 q1477 qs76 q107 q1478) rfl rfl rfl (by decide +kernel) ⟨Nat.le_of_ble_eq_true rfl, Nat.le_of_ble_eq_true rfl⟩) hI hK (hw.recv hI hK (mf_main) rfl) rfl hl.1 rfl (Nat.le_of_ble_eq_true rfl) dX13_talk_45 ⟨Nat.le_of_ble_eq_true rfl, Nat.le_of_ble_eq_true rfl⟩) hS (fun H1 locs1 hI hS => ?_)
            obtain ⟨x1, ex1⟩ : ∃ z, z = ys xc39 0 (dr1 (xc39.1 0)) := ⟨_, rfl⟩
            rw [← ex1] at hI
            refine lv_bipush (v := 6) hx hb dX13_talk_48 (by decide) ?_
            refine lv_irem hx hb dX13_talk_50 (by decide) ?_
            refine lv_istore_n (lv' := [(3, .int ((drI (dzI (xc39.1 0 1 3))) - (drI (dzI (xc39.1 0 1 3))) / (6 : Int32) * (6 : Int32))), (0, .ref (L 0)), (1, .int (nI k)), (2, .int (nI i))]) hx hb dX13_talk_51 rfl hl (by decide) rfl (fun ls hl => ?_)
            refine lv_aload_n hx hb dX13_talk_52 rfl (lv_at hl 1 rfl) ?_
            refine c_m (k_V (As := []) (rest := []) F (k_X13_drawOne x1) (cwV 0 hts (lw_V q1475 q1477 qs76 q107 q1478) rfl rfl rfl (by decide +kernel) ⟨Nat.le_of_ble_eq_true rfl, Nat.le_of_ble_eq_true rfl⟩) hI hK (hw.recv hI hK (mf_main) rfl) rfl hl.1 rfl (Nat.le_of_ble_eq_true rfl) dX13_talk_53 ⟨Nat.le_of_ble_eq_true rfl, Nat.le_of_ble_eq_true rfl⟩) hS (fun H1 locs1 hI hS => ?_)
            obtain ⟨x2, ex2⟩ : ∃ z, z = ys x1 0 (dr1 (x1.1 0)) := ⟨_, rfl⟩
            rw [← ex2] at hI
            refine lv_bipush (v := 16) hx hb dX13_talk_56 (by decide) ?_
            refine lv_irem hx hb dX13_talk_58 (by decide) ?_
            refine lv_istore (lv' := [(4, .int ((drI (dzI (x1.1 0 1 3))) - (drI (dzI (x1.1 0 1 3))) / (16 : Int32) * (16 : Int32))), (3, .int ((drI (dzI (xc39.1 0 1 3))) - (drI (dzI (xc39.1 0 1 3))) / (6 : Int32) * (6 : Int32))), (0, .ref (L 0)), (1, .int (nI k)), (2, .int (nI i))]) hx hb dX13_talk_59 hl (by decide) rfl (fun ls hl => ?_)
            refine lv_aload_n hx hb dX13_talk_61 rfl (lv_at hl 2 rfl) ?_
            refine c_m (k_V (As := []) (rest := []) F (k_X13_drawOne x2) (cwV 0 hts (lw_V q1475 q1477 qs76 q107 q1478) rfl rfl rfl (by decide +kernel) ⟨Nat.le_of_ble_eq_true rfl, Nat.le_of_ble_eq_true rfl⟩) hI hK (hw.recv hI hK (mf_main) rfl) rfl hl.1 rfl (Nat.le_of_ble_eq_true rfl) dX13_talk_62 ⟨Nat.le_of_ble_eq_true rfl, Nat.le_of_ble_eq_true rfl⟩) hS (fun H1 locs1 hI hS => ?_)
            obtain ⟨x3, ex3⟩ : ∃ z, z = ys x2 0 (dr1 (x2.1 0)) := ⟨_, rfl⟩
            rw [← ex3] at hI
            refine lv_bipush (v := 10) hx hb dX13_talk_65 (by decide) ?_
            refine lv_irem hx hb dX13_talk_67 (by decide) ?_
            refine lv_istore (lv' := [(5, .int ((drI (dzI (x2.1 0 1 3))) - (drI (dzI (x2.1 0 1 3))) / (10 : Int32) * (10 : Int32))), (4, .int ((drI (dzI (x1.1 0 1 3))) - (drI (dzI (x1.1 0 1 3))) / (16 : Int32) * (16 : Int32))), (3, .int ((drI (dzI (xc39.1 0 1 3))) - (drI (dzI (xc39.1 0 1 3))) / (6 : Int32) * (6 : Int32))), (0, .ref (L 0)), (1, .int (nI k)), (2, .int (nI i))]) hx hb dX13_talk_68 hl (by decide) rfl (fun ls hl => ?_)
            have hdy : x3.1 0 1 2 = nI δ := by rw [← hdd]; simp [ex3, ex2, ex1, exc39, ys_at, dr1, u2_at]
            refine lv_aload_n hx hb dX13_talk_70 rfl (lv_at hl 3 rfl) ?_
            refine r_get (C := RX13) (T := TX13) (N := 18) hx hb hts in_X13 hown hK hI (mf_main) rfl 0 (by decide) (hts _ q1164) (fun _ h => h) rfl dX13_talk_71 ?_
            refine lv_iconst (v := 3) hx hb dX13_talk_74 (by decide) ?_
            refine lv_aload_n hx hb dX13_talk_75 rfl (lv_at hl 3 rfl) ?_
            refine r_get (C := RX13) (T := TX13) (N := 18) hx hb hts in_X13 hown hK hI (mf_main) rfl 0 (by decide) (hts _ q1164) (fun _ h => h) rfl dX13_talk_76 ?_
            refine lv_iconst (v := 1) hx hb dX13_talk_79 (by decide) ?_
            refine n_ialdv (k := 1) (v := (x3.1 0 1 2)) hx hb hK hI (mf_d) (rfl) (by decide) (by decide) (rfl) dX13_talk_80 ?_
            refine lv_bipush (v := 6) hx hb dX13_talk_81 (by decide) ?_
            refine lv_irem hx hb dX13_talk_83 (by decide) ?_
            refine lv_iadd hx hb dX13_talk_84 ?_
            refine lv_sipush (v := 1000) hx hb dX13_talk_85 (by decide) ?_
            refine lv_iload_n hx hb dX13_talk_88 rfl (lv_at hl 2 rfl) ?_
            refine lv_imul hx hb dX13_talk_89 ?_
            refine lv_bipush (v := 10) hx hb dX13_talk_90 (by decide) ?_
            refine lv_iload hx hb dX13_talk_92 (lv_at hl 1 rfl) ?_
            refine lv_imul hx hb dX13_talk_94 ?_
            refine lv_iadd hx hb dX13_talk_95 ?_
            refine lv_iload hx hb dX13_talk_96 (lv_at hl 0 rfl) ?_
            refine lv_iadd hx hb dX13_talk_98 ?_
            obtain ⟨x4, ex4⟩ : ∃ z, z = ys x3 0 (u2 (x3.1 0) 0 (δ % 6) ((((1000 : Int32) * ((drI (dzI (xc39.1 0 1 3))) - (drI (dzI (xc39.1 0 1 3))) / (6 : Int32) * (6 : Int32))) + ((10 : Int32) * ((drI (dzI (x1.1 0 1 3))) - (drI (dzI (x1.1 0 1 3))) / (16 : Int32) * (16 : Int32)))) + ((drI (dzI (x2.1 0 1 3))) - (drI (dzI (x2.1 0 1 3))) / (10 : Int32) * (10 : Int32)))) := ⟨_, rfl⟩
            refine n_iast (cf' := cfM D L x4) (k := (3 + (δ % 6))) hx hb hK hI hS (mf_d) (na_add (rfl) (by rw [hdy]; exact pk_rem (d := 6) (by omega) (by decide) (by decide))) (by omega) (by decide) (by rw [ex4]; exact ms_w (w := 0) (by decide) (mu_list _ (by omega) _) (by rw [u2_ne (by decide)])) dX13_talk_99 (fun H1 locs1 hI hS => ?_)
            have hx4 : x4 = ys xc39 0 (u2 (dr1 (dr1 (dr1 (xc39.1 0)))) 0 ((xc39.1 0 1 2).toNatClampNeg % 6) (syI (dr1I (xc39.1 0) 6) (dr1I (dr1 (xc39.1 0)) 16) (dr1I (dr1 (dr1 (xc39.1 0))) 10))) := by rw [hdd, nI_clamp (by omega)]; simp only [ex4, ex3, ex2, ex1, exc39, ys_at, ys_ys, dr1I]; rfl
            have hO_x4 : wOk (x4.1 0) := by rw [hx4, ys_at]; exact wOk_l (wOk_dr (wOk_dr (wOk_dr hO_xc39))) (sOk_sy (isN_dr1 _ (by decide) (by decide) rfl) (isN_dr1 _ (by decide) (by decide) rfl) (isN_dr1 _ (by decide) (by decide) rfl))
            have hd_x4 : isN (x4.1 0 1 2) 99999 := by rw [hx4, ys_at, u2_ne (by decide)]; simp only [dr1, u2_at]; exact hd0
            refine lv_aload_n hx hb dX13_talk_100 rfl (lv_at hl 3 rfl) ?_
            refine c_m (k_V (As := []) (rest := []) F (k_X13_dayGoes x4 (hO_x4) (hd_x4)) (cwV 0 hts (lw_V q1347 q1349 qs62 q107 q1350) rfl rfl rfl (by decide +kernel) ⟨Nat.le_of_ble_eq_true rfl, Nat.le_of_ble_eq_true rfl⟩) hI hK (hw.recv hI hK (mf_main) rfl) rfl hl.1 rfl (Nat.le_of_ble_eq_true rfl) dX13_talk_101 ⟨Nat.le_of_ble_eq_true rfl, Nat.le_of_ble_eq_true rfl⟩) hS (fun H1 locs1 hI hS => ?_)
            obtain ⟨x5, ex5⟩ : ∃ z, z = ys x4 0 (psw (x4.1 0)) := ⟨_, rfl⟩
            rw [← ex5] at hI
            refine lv_iinc (v := (nI (i + 1))) (lv' := [(2, .int (nI (i + 1))), (5, .int ((drI (dzI (x2.1 0 1 3))) - (drI (dzI (x2.1 0 1 3))) / (10 : Int32) * (10 : Int32))), (4, .int ((drI (dzI (x1.1 0 1 3))) - (drI (dzI (x1.1 0 1 3))) / (16 : Int32) * (16 : Int32))), (3, .int ((drI (dzI (xc39.1 0 1 3))) - (drI (dzI (xc39.1 0 1 3))) / (6 : Int32) * (6 : Int32))), (0, .ref (L 0)), (1, .int (nI k))]) hx hb dX13_talk_104 hl (k := 5) rfl (nI_1 _) (by decide) rfl (fun ls hl => ?_)
            refine lv_goto (tgt := 39) hx hb dX13_talk_107 (by decide) ?_
            exact ih39 (i + 1) (by omega) (by omega) (nI (i + 1)) (rfl) x5 (by rw [ex5, hx4, exc39]; simp only [ys_at, ys_ys]; rfl) _ _ hI hS ls (lv_sub hl [4, 5, 0] rfl)
      exact lp39 (_ + 1) (0) (Nat.zero_le _) (Nat.lt_succ_self _) 0 (rfl) x ((ys_self _ _).symm) _ _ hI hS ls (lv_sub hl [1, 2, 0] rfl)
    · skip
      have c_28 := Int32.not_le.mp c_28
      refine lv_aload_n hx hb dX13_talk_31 rfl (lv_at hl 0 rfl) ?_
      refine lv_iconst (v := 4) hx hb dX13_talk_32 (by decide) ?_
      refine c_m (k_V (As := [.int 4]) (rest := []) F (k_X13_finds x 4 (by decide)) (cwV 1 hts (lw_V q1238 q1240 qs47 q107 q1241) rfl rfl rfl (by decide +kernel) ⟨Nat.le_of_ble_eq_true rfl, Nat.le_of_ble_eq_true rfl⟩) hI hK (hw.recv hI hK (mf_main) rfl) rfl hl.1 rfl (Nat.le_of_ble_eq_true rfl) dX13_talk_33 ⟨Nat.le_of_ble_eq_true rfl, Nat.le_of_ble_eq_true rfl⟩) hS (fun H1 locs1 hI hS => ?_)
      obtain ⟨x6, ex6⟩ : ∃ z, z = (fndM x 4) := ⟨_, rfl⟩
      rw [← ex6] at hI
      exact W.iret hx hb hr (fun t ht _ => ⟨rI (by simp [a_talk, aR, ltI, c_9, c_28]), by rw [ht]; exact hw_eq hI (congrArg (cfM D L) (by rw [ex6]; simp [a_talk, aM, ltI, c_9, c_28])), hS.F ht⟩) hS.2.2 dX13_talk_36
  · skip
    refine lv_aload_n hx hb dX13_talk_12 rfl (lv_at hl 0 rfl) ?_
    refine lv_iconst (v := 0) hx hb dX13_talk_13 (by decide) ?_
    refine c_m (k_V (As := [.int 0]) (rest := []) F (k_X13_finds x 0 (by decide)) (cwV 1 hts (lw_V q1238 q1240 qs47 q107 q1241) rfl rfl rfl (by decide +kernel) ⟨Nat.le_of_ble_eq_true rfl, Nat.le_of_ble_eq_true rfl⟩) hI hK (hw.recv hI hK (mf_main) rfl) rfl hl.1 rfl (Nat.le_of_ble_eq_true rfl) dX13_talk_14 ⟨Nat.le_of_ble_eq_true rfl, Nat.le_of_ble_eq_true rfl⟩) hS (fun H1 locs1 hI hS => ?_)
    obtain ⟨x7, ex7⟩ : ∃ z, z = (fndM x 0) := ⟨_, rfl⟩
    rw [← ex7] at hI
    exact W.iret hx hb hr (fun t ht _ => ⟨rI (by first | (simp [a_talk, aR, c_9]; done)), by rw [ht]; exact hw_eq hI (congrArg (cfM D L) (by rw [ex7]; simp [a_talk, aM, c_9])), hS.F ht⟩) hS.2.2 dX13_talk_17
theorem k_X13_holding {l : Launch} {D : va_G} {L : Nat → Nat} {A : Nat → Prop} (x : mst) (hO : wOk (x.1 0)) : Met l yX13_holding (ws_ yX13_holding cX13_holding 3 (some .int)) ({ frames := 0, cells := 0, slots := 0, locals := 0 } : Room) (va_Pc [.ref (L 0)] (pI D (cfM D L x) A)) (rQ (.int (hoI (x.1 0)))) 0 0 nof := by
  refine met_I (by decide) rfl (Nat.le_of_ble_eq_true rfl) ?_
  intro p e s m below meth c ls hx hb hr hml hown hts hlocks hl hI hK
  have F : CallFix p m c cX13_holding 3 s _ lw_all RX13 := ⟨hx, hb, hml, hown, hts⟩
  have hl : lv_has ls 3 [(0, .ref (L 0))] := hl
  refine lv_iconst (v := 0) hx hb dX13_holding_0 (by decide) ?_
  refine lv_istore_n (lv' := [(1, .int 0), (0, .ref (L 0))]) hx hb dX13_holding_1 rfl hl (by decide) rfl (fun ls hl => ?_)
  refine lv_iconst (v := 0) hx hb dX13_holding_2 (by decide) ?_
  refine lv_istore_n (lv' := [(2, .int 0), (1, .int 0), (0, .ref (L 0))]) hx hb dX13_holding_3 rfl hl (by decide) rfl (fun ls hl => ?_)
  have lp4 : ∀ (fuel : Nat) (i : Nat), (i ≤ 10) → 10 - i < fuel → ∀ (v1 : Int32) (v2 : Int32), v1 = (itr (hoS (x.1 0)) 0 i) → v2 = nI i → ∀ (ls : Array Slot), lv_has ls 3 [(0, .ref (L 0)), (1, .int v1), (2, .int v2)] → W p l e ({ frames := 0, cells := 0, slots := 0, locals := 0 } : Room) s m ([.ref (L 0)] : List Value).toArray below meth c s.heap [] 0 0 (MQ below (rQ (.int (hoI (x.1 0)))) ([.ref (L 0)] : List Value).toArray s 0 0 nof) (F0 m 4 ls []) := by
    intro fuel
    induction fuel with
    | zero => intro i hi hf; exact absurd hf (Nat.not_lt_zero _)
    | succ fuel ih4 =>
      intro i hi hf4 v1 v2 e1 e2  ls hl
      subst e1 e2
      refine lv_iload_n hx hb dX13_holding_4 rfl (lv_at hl 2 rfl) ?_
      refine lv_bipush (v := 10) hx hb dX13_holding_5 (by decide) ?_
      refine lv_icmp_ge (tgt := 36) hx hb dX13_holding_7 (by decide) (fun c_7 => ?_) (fun c_7 => ?_)
      · skip
        have c_7 : 10 ≤ i := (nle (a := 10) (b := i) (rfl) (rfl) (by omega) (by omega)).mp c_7
        refine lv_iload_n hx hb dX13_holding_36 rfl (lv_at hl 1 rfl) ?_
        exact W.iret hx hb hr (fun t ht _ => ⟨rI (by rw [hoI, show i = 10 by omega]), ht⟩) (fun q h => by cases h) dX13_holding_37
      · skip
        have c_7 : ¬ 10 ≤ i := fun z => c_7 ((nle (a := 10) (b := i) (rfl) (rfl) (by omega) (by omega)).mpr z)
        refine lv_iload_n hx hb dX13_holding_10 rfl (lv_at hl 1 rfl) ?_
        refine lv_aload_n hx hb dX13_holding_11 rfl (lv_at hl 0 rfl) ?_
        refine r_get (C := RX13) (T := TX13) (N := 18) hx hb hts in_X13 hown hK hI (mf_main) rfl 0 (by decide) (hts _ q1164) (fun _ h => h) rfl dX13_holding_12 ?_
        refine lv_bipush (v := 65) hx hb dX13_holding_15 (by decide) ?_
        refine lv_iload_n hx hb dX13_holding_17 rfl (lv_at hl 2 rfl) ?_
        refine lv_iadd hx hb dX13_holding_18 ?_
        refine n_ialdv (k := (65 + i)) (v := ((x.1 0 9 i) + 1)) hx hb hK hI (mf_d) (na_add (rfl) (rfl)) (by omega) (by decide) (md_hold _ _) dX13_holding_19 ?_
        refine lv_if_le (tgt := 27) hx hb dX13_holding_20 (by decide) (fun c_20 => ?_) (fun c_20 => ?_)
        · skip
          have c_20 := Int32.not_lt.mpr c_20
          refine lv_iconst (v := 0) hx hb dX13_holding_27 (by decide) ?_
          refine lv_iadd hx hb dX13_holding_28 ?_
          refine lv_istore_n (lv' := [(1, .int ((itr (hoS (x.1 0)) 0 i) + (0 : Int32))), (0, .ref (L 0)), (2, .int (nI i))]) hx hb dX13_holding_29 rfl hl (by decide) rfl (fun ls hl => ?_)
          refine lv_iinc (v := (nI (i + 1))) (lv' := [(2, .int (nI (i + 1))), (1, .int ((itr (hoS (x.1 0)) 0 i) + (0 : Int32))), (0, .ref (L 0))]) hx hb dX13_holding_30 hl (k := 2) rfl (nI_1 _) (by decide) rfl (fun ls hl => ?_)
          refine lv_goto (tgt := 4) hx hb dX13_holding_33 (by decide) ?_
          exact ih4 (i + 1) (by omega) (by omega) ((itr (hoS (x.1 0)) 0 i) + (0 : Int32)) (nI (i + 1)) (by rw [itr_s, hoS]; first | (rw [if_neg (ho_p (hO.2.2.2.2 i (by omega)) c_20)]; done) | (rw [if_pos (ho_n (hO.2.2.2.2 i (by omega)) c_20)]; done)) (rfl) ls (lv_sub hl [2, 1, 0] rfl)
        · skip
          have c_20 := Int32.not_le.mp c_20
          refine lv_iconst (v := 1) hx hb dX13_holding_23 (by decide) ?_
          refine lv_goto (tgt := 28) hx hb dX13_holding_24 (by decide) ?_
          refine lv_iadd hx hb dX13_holding_28 ?_
          refine lv_istore_n (lv' := [(1, .int ((itr (hoS (x.1 0)) 0 i) + (1 : Int32))), (0, .ref (L 0)), (2, .int (nI i))]) hx hb dX13_holding_29 rfl hl (by decide) rfl (fun ls hl => ?_)
          refine lv_iinc (v := (nI (i + 1))) (lv' := [(2, .int (nI (i + 1))), (1, .int ((itr (hoS (x.1 0)) 0 i) + (1 : Int32))), (0, .ref (L 0))]) hx hb dX13_holding_30 hl (k := 2) rfl (nI_1 _) (by decide) rfl (fun ls hl => ?_)
          refine lv_goto (tgt := 4) hx hb dX13_holding_33 (by decide) ?_
          exact ih4 (i + 1) (by omega) (by omega) ((itr (hoS (x.1 0)) 0 i) + (1 : Int32)) (nI (i + 1)) (by rw [itr_s, hoS]; first | (rw [if_neg (ho_p (hO.2.2.2.2 i (by omega)) c_20)]; done) | (rw [if_pos (ho_n (hO.2.2.2.2 i (by omega)) c_20)]; done)) (rfl) ls (lv_sub hl [2, 1, 0] rfl)
  exact lp4 (_ + 1) (0) (Nat.zero_le _) (Nat.lt_succ_self _) 0 0 (rfl) (rfl) ls (lv_sub hl [2, 1, 0] rfl)
theorem k_X13_count {l : Launch} {D : va_G} {L : Nat → Nat} {A : Nat → Prop} (x : mst) (hO : wOk (x.1 0)) (w : Int32) : Met l yX13_count (ws_ yX13_count cX13_count 2 (some .int)) ({ frames := 3, cells := 0, slots := 0, locals := 66 } : Room) (va_Pc [.ref (L 0), .int w] (pI D (cfM D L x) A)) (nQ D (cfM D L (aM x (a_count (x.1 0) (x.2.1 0 1) w))) A (some (.int (aR (a_count (x.1 0) (x.2.1 0 1) w))))) 0 0 A := by
  refine met_I (by decide) rfl (Nat.le_of_ble_eq_true rfl) ?_
  intro p e s m below meth c ls hx hb hr hml hown hts hlocks hl hI hK
  have F : CallFix p m c cX13_count 2 s _ lw_all RX13 := ⟨hx, hb, hml, hown, hts⟩
  have hl : lv_has ls 2 [(0, .ref (L 0)), (1, .int w)] := hl
  have hS : va_S A s.heap s.heap [] := va_S.rf
  refine lv_iload_n hx hb dX13_count_0 rfl (lv_at hl 1 rfl) ?_
  by_cases c_1_0 : w = 0
  · skip
    refine lv_tableIn (off := 47) (tgt := 48) hx hb dX13_count_1 (by rw [c_1_0]; decide) (by rw [c_1_0]; decide) (by rw [c_1_0]; rfl) (by decide) ?_
    refine lv_aload_n hx hb dX13_count_48 rfl (lv_at hl 0 rfl) ?_
    refine r_get (C := RX13) (T := TX13) (N := 18) hx hb hts in_X13 hown hK hI (mf_main) rfl 0 (by decide) (hts _ q1164) (fun _ h => h) rfl dX13_count_49 ?_
    refine lv_iconst (v := 1) hx hb dX13_count_52 (by decide) ?_
    refine n_ialdv (k := 1) (v := (x.1 0 1 2)) hx hb hK hI (mf_d) (rfl) (by decide) (by decide) (rfl) dX13_count_53 ?_
    exact W.iret hx hb hr (fun t ht _ => ⟨rI (by first | (simp only [a_count, aR, if_pos c_1_0]; done) | (simp [a_count, aR, c_1_0]; done)), by rw [ht]; exact hw_eq hI (congrArg (cfM D L) (by first | (rw []; simp only [a_count, aM, if_pos c_1_0]; done) | (simp only [a_count, aM, ys_self, if_pos c_1_0]; done) | (rw []; simp [a_count, aM, c_1_0]; done) | (simp [a_count, aM, c_1_0, ys_self]; done))), hS.F ht⟩) hS.2.2 dX13_count_54
  by_cases c_1_1 : w = 1
  · skip
    refine lv_tableIn (off := 54) (tgt := 55) hx hb dX13_count_1 (by rw [c_1_1]; decide) (by rw [c_1_1]; decide) (by rw [c_1_1]; rfl) (by decide) ?_
    refine lv_aload_n hx hb dX13_count_55 rfl (lv_at hl 0 rfl) ?_
    refine r_get (C := RX13) (T := TX13) (N := 18) hx hb hts in_X13 hown hK hI (mf_main) rfl 0 (by decide) (hts _ q1164) (fun _ h => h) rfl dX13_count_56 ?_
    refine lv_iconst (v := 0) hx hb dX13_count_59 (by decide) ?_
    refine n_ialdv (k := 0) (v := (x.1 0 1 0)) hx hb hK hI (mf_d) (rfl) (by decide) (by decide) (rfl) dX13_count_60 ?_
    exact W.iret hx hb hr (fun t ht _ => ⟨rI (by first | (simp only [a_count, aR, if_neg c_1_0, if_pos c_1_1]; done) | (simp [a_count, aR, c_1_0, c_1_1]; done)), by rw [ht]; exact hw_eq hI (congrArg (cfM D L) (by first | (rw []; simp only [a_count, aM, if_neg c_1_0, if_pos c_1_1]; done) | (simp only [a_count, aM, ys_self, if_neg c_1_0, if_pos c_1_1]; done) | (rw []; simp [a_count, aM, c_1_0, c_1_1]; done) | (simp [a_count, aM, c_1_0, c_1_1, ys_self]; done))), hS.F ht⟩) hS.2.2 dX13_count_61
  by_cases c_1_2 : w = 2
  · skip
    refine lv_tableIn (off := 61) (tgt := 62) hx hb dX13_count_1 (by rw [c_1_2]; decide) (by rw [c_1_2]; decide) (by rw [c_1_2]; rfl) (by decide) ?_
    refine lv_aload_n hx hb dX13_count_62 rfl (lv_at hl 0 rfl) ?_
    refine c_r (k_V (As := []) (rest := []) F (k_X13_allKnow x (hO)) (cwV 0 hts (lw_V q1366 q1368 qs66 q107 q1369) rfl rfl rfl (by decide +kernel) ⟨Nat.le_of_ble_eq_true rfl, Nat.le_of_ble_eq_true rfl⟩) hI hK (hw.recv hI hK (mf_main) rfl) rfl hl.1 rfl (Nat.le_of_ble_eq_true rfl) dX13_count_63 ⟨Nat.le_of_ble_eq_true rfl, Nat.le_of_ble_eq_true rfl⟩) ?_
    refine c_r (k_S (As := [.int (knI (x.1 0) 3 (allI (x.1 0)))]) (rest := []) F (k_X13_ones (knI (x.1 0) 3 (allI (x.1 0))) (isN_kn hO 3 _ (by decide))) (va_cwS 1 hts (lw_S q1363 q1364 q107 q1365) rfl rfl rfl (by decide +kernel) ⟨Nat.le_of_ble_eq_true rfl, Nat.le_of_ble_eq_true rfl⟩) rfl hl.1 rfl (Nat.le_of_ble_eq_true rfl) dX13_count_66 ⟨Nat.le_of_ble_eq_true rfl, Nat.le_of_ble_eq_true rfl⟩) ?_
    exact W.iret hx hb hr (fun t ht _ => ⟨rI (by first | (simp only [a_count, aR, if_neg c_1_0, if_neg c_1_1, if_pos c_1_2]; done) | (simp [a_count, aR, c_1_0, c_1_1, c_1_2]; done)), by rw [ht]; exact hw_eq hI (congrArg (cfM D L) (by first | (rw []; simp only [a_count, aM, if_neg c_1_0, if_neg c_1_1, if_pos c_1_2]; done) | (simp only [a_count, aM, ys_self, if_neg c_1_0, if_neg c_1_1, if_pos c_1_2]; done) | (rw []; simp [a_count, aM, c_1_0, c_1_1, c_1_2]; done) | (simp [a_count, aM, c_1_0, c_1_1, c_1_2, ys_self]; done))), hS.F ht⟩) hS.2.2 dX13_count_69
  by_cases c_1_3 : w = 3
  · skip
    refine lv_tableIn (off := 69) (tgt := 70) hx hb dX13_count_1 (by rw [c_1_3]; decide) (by rw [c_1_3]; decide) (by rw [c_1_3]; rfl) (by decide) ?_
    refine lv_aload_n hx hb dX13_count_70 rfl (lv_at hl 0 rfl) ?_
    refine c_r (k_V (As := []) (rest := []) F (k_X13_allHands x (hO)) (cwV 0 hts (lw_V q1374 q1376 qs67 q107 q1377) rfl rfl rfl (by decide +kernel) ⟨Nat.le_of_ble_eq_true rfl, Nat.le_of_ble_eq_true rfl⟩) hI hK (hw.recv hI hK (mf_main) rfl) rfl hl.1 rfl (Nat.le_of_ble_eq_true rfl) dX13_count_71 ⟨Nat.le_of_ble_eq_true rfl, Nat.le_of_ble_eq_true rfl⟩) ?_
    refine c_r (k_S (As := [.int (knI (x.1 0) 5 (allI (x.1 0)))]) (rest := []) F (k_X13_ones (knI (x.1 0) 5 (allI (x.1 0))) (isN_kn hO 5 _ (by decide))) (va_cwS 1 hts (lw_S q1363 q1364 q107 q1365) rfl rfl rfl (by decide +kernel) ⟨Nat.le_of_ble_eq_true rfl, Nat.le_of_ble_eq_true rfl⟩) rfl hl.1 rfl (Nat.le_of_ble_eq_true rfl) dX13_count_74 ⟨Nat.le_of_ble_eq_true rfl, Nat.le_of_ble_eq_true rfl⟩) ?_
    exact W.iret hx hb hr (fun t ht _ => ⟨rI (by first | (simp only [a_count, aR, if_neg c_1_0, if_neg c_1_1, if_neg c_1_2, if_pos c_1_3]; done) | (simp [a_count, aR, c_1_0, c_1_1, c_1_2, c_1_3]; done)), by rw [ht]; exact hw_eq hI (congrArg (cfM D L) (by first | (rw []; simp only [a_count, aM, if_neg c_1_0, if_neg c_1_1, if_neg c_1_2, if_pos c_1_3]; done) | (simp only [a_count, aM, ys_self, if_neg c_1_0, if_neg c_1_1, if_neg c_1_2, if_pos c_1_3]; done) | (rw []; simp [a_count, aM, c_1_0, c_1_1, c_1_2, c_1_3]; done) | (simp [a_count, aM, c_1_0, c_1_1, c_1_2, c_1_3, ys_self]; done))), hS.F ht⟩) hS.2.2 dX13_count_77
  by_cases c_1_4 : w = 4
  · skip
    refine lv_tableIn (off := 77) (tgt := 78) hx hb dX13_count_1 (by rw [c_1_4]; decide) (by rw [c_1_4]; decide) (by rw [c_1_4]; rfl) (by decide) ?_
    refine lv_aload_n hx hb dX13_count_78 rfl (lv_at hl 0 rfl) ?_
    refine c_r (k_V (As := []) (rest := []) F (k_X13_allDrawn x (hO)) (cwV 0 hts (lw_V q1378 q1380 qs68 q107 q1381) rfl rfl rfl (by decide +kernel) ⟨Nat.le_of_ble_eq_true rfl, Nat.le_of_ble_eq_true rfl⟩) hI hK (hw.recv hI hK (mf_main) rfl) rfl hl.1 rfl (Nat.le_of_ble_eq_true rfl) dX13_count_79 ⟨Nat.le_of_ble_eq_true rfl, Nat.le_of_ble_eq_true rfl⟩) ?_
    exact W.iret hx hb hr (fun t ht _ => ⟨rI (by first | (simp only [a_count, aR, if_neg c_1_0, if_neg c_1_1, if_neg c_1_2, if_neg c_1_3, if_pos c_1_4]; done) | (simp [a_count, aR, c_1_0, c_1_1, c_1_2, c_1_3, c_1_4]; done)), by rw [ht]; exact hw_eq hI (congrArg (cfM D L) (by first | (rw []; simp only [a_count, aM, if_neg c_1_0, if_neg c_1_1, if_neg c_1_2, if_neg c_1_3, if_pos c_1_4]; done) | (simp only [a_count, aM, ys_self, if_neg c_1_0, if_neg c_1_1, if_neg c_1_2, if_neg c_1_3, if_pos c_1_4]; done) | (rw []; simp [a_count, aM, c_1_0, c_1_1, c_1_2, c_1_3, c_1_4]; done) | (simp [a_count, aM, c_1_0, c_1_1, c_1_2, c_1_3, c_1_4, ys_self]; done))), hS.F ht⟩) hS.2.2 dX13_count_82
  by_cases c_1_5 : w = 5
  · skip
    refine lv_tableIn (off := 82) (tgt := 83) hx hb dX13_count_1 (by rw [c_1_5]; decide) (by rw [c_1_5]; decide) (by rw [c_1_5]; rfl) (by decide) ?_
    refine lv_aload_n hx hb dX13_count_83 rfl (lv_at hl 0 rfl) ?_
    refine r_get (C := RX13) (T := TX13) (N := 18) hx hb hts in_X13 hown hK hI (mf_main) rfl 7 (by decide) (hts _ q1171) (fun _ h => h) rfl dX13_count_84 ?_
    exact W.iret hx hb hr (fun t ht _ => ⟨rI (by first | (simp only [a_count, aR, if_neg c_1_0, if_neg c_1_1, if_neg c_1_2, if_neg c_1_3, if_neg c_1_4, if_pos c_1_5]; done) | (simp [a_count, aR, c_1_0, c_1_1, c_1_2, c_1_3, c_1_4, c_1_5]; done)), by rw [ht]; exact hw_eq hI (congrArg (cfM D L) (by first | (rw []; simp only [a_count, aM, if_neg c_1_0, if_neg c_1_1, if_neg c_1_2, if_neg c_1_3, if_neg c_1_4, if_pos c_1_5]; done) | (simp only [a_count, aM, ys_self, if_neg c_1_0, if_neg c_1_1, if_neg c_1_2, if_neg c_1_3, if_neg c_1_4, if_pos c_1_5]; done) | (rw []; simp [a_count, aM, c_1_0, c_1_1, c_1_2, c_1_3, c_1_4, c_1_5]; done) | (simp [a_count, aM, c_1_0, c_1_1, c_1_2, c_1_3, c_1_4, c_1_5, ys_self]; done))), hS.F ht⟩) hS.2.2 dX13_count_87
  by_cases c_1_6 : w = 6
  · skip
    refine lv_tableIn (off := 87) (tgt := 88) hx hb dX13_count_1 (by rw [c_1_6]; decide) (by rw [c_1_6]; decide) (by rw [c_1_6]; rfl) (by decide) ?_
    refine lv_aload_n hx hb dX13_count_88 rfl (lv_at hl 0 rfl) ?_
    refine r_get (C := RX13) (T := TX13) (N := 18) hx hb hts in_X13 hown hK hI (mf_main) rfl 0 (by decide) (hts _ q1164) (fun _ h => h) rfl dX13_count_89 ?_
    refine lv_iconst (v := 2) hx hb dX13_count_92 (by decide) ?_
    refine n_ialdv (k := 2) (v := (x.1 0 1 3)) hx hb hK hI (mf_d) (rfl) (by decide) (by decide) (rfl) dX13_count_93 ?_
    exact W.iret hx hb hr (fun t ht _ => ⟨rI (by first | (simp only [a_count, aR, if_neg c_1_0, if_neg c_1_1, if_neg c_1_2, if_neg c_1_3, if_neg c_1_4, if_neg c_1_5, if_pos c_1_6]; done) | (simp [a_count, aR, c_1_0, c_1_1, c_1_2, c_1_3, c_1_4, c_1_5, c_1_6]; done)), by rw [ht]; exact hw_eq hI (congrArg (cfM D L) (by first | (rw []; simp only [a_count, aM, if_neg c_1_0, if_neg c_1_1, if_neg c_1_2, if_neg c_1_3, if_neg c_1_4, if_neg c_1_5, if_pos c_1_6]; done) | (simp only [a_count, aM, ys_self, if_neg c_1_0, if_neg c_1_1, if_neg c_1_2, if_neg c_1_3, if_neg c_1_4, if_neg c_1_5, if_pos c_1_6]; done) | (rw []; simp [a_count, aM, c_1_0, c_1_1, c_1_2, c_1_3, c_1_4, c_1_5, c_1_6]; done) | (simp [a_count, aM, c_1_0, c_1_1, c_1_2, c_1_3, c_1_4, c_1_5, c_1_6, ys_self]; done))), hS.F ht⟩) hS.2.2 dX13_count_94
  by_cases c_1_7 : w = 7
  · skip
    refine lv_tableIn (off := 94) (tgt := 95) hx hb dX13_count_1 (by rw [c_1_7]; decide) (by rw [c_1_7]; decide) (by rw [c_1_7]; rfl) (by decide) ?_
    refine lv_aload_n hx hb dX13_count_95 rfl (lv_at hl 0 rfl) ?_
    refine c_r (k_V (As := []) (rest := []) F (k_X13_holding x (hO)) (cwV 0 hts (lw_V q1621 q1623 qs89 q107 q1624) rfl rfl rfl (by decide +kernel) ⟨Nat.le_of_ble_eq_true rfl, Nat.le_of_ble_eq_true rfl⟩) hI hK (hw.recv hI hK (mf_main) rfl) rfl hl.1 rfl (Nat.le_of_ble_eq_true rfl) dX13_count_96 ⟨Nat.le_of_ble_eq_true rfl, Nat.le_of_ble_eq_true rfl⟩) ?_
    exact W.iret hx hb hr (fun t ht _ => ⟨rI (by first | (simp only [a_count, aR, if_neg c_1_0, if_neg c_1_1, if_neg c_1_2, if_neg c_1_3, if_neg c_1_4, if_neg c_1_5, if_neg c_1_6, if_pos c_1_7]; done) | (simp [a_count, aR, c_1_0, c_1_1, c_1_2, c_1_3, c_1_4, c_1_5, c_1_6, c_1_7]; done)), by rw [ht]; exact hw_eq hI (congrArg (cfM D L) (by first | (rw []; simp only [a_count, aM, if_neg c_1_0, if_neg c_1_1, if_neg c_1_2, if_neg c_1_3, if_neg c_1_4, if_neg c_1_5, if_neg c_1_6, if_pos c_1_7]; done) | (simp only [a_count, aM, ys_self, if_neg c_1_0, if_neg c_1_1, if_neg c_1_2, if_neg c_1_3, if_neg c_1_4, if_neg c_1_5, if_neg c_1_6, if_pos c_1_7]; done) | (rw []; simp [a_count, aM, c_1_0, c_1_1, c_1_2, c_1_3, c_1_4, c_1_5, c_1_6, c_1_7]; done) | (simp [a_count, aM, c_1_0, c_1_1, c_1_2, c_1_3, c_1_4, c_1_5, c_1_6, c_1_7, ys_self]; done))), hS.F ht⟩) hS.2.2 dX13_count_99
  refine lv_tableOut (tgt := 100) hx hb dX13_count_1 (by have n0 := lv_neT c_1_0 (a := 0) (by decide); have n1 := lv_neT c_1_1 (a := 1) (by decide); have n2 := lv_neT c_1_2 (a := 2) (by decide); have n3 := lv_neT c_1_3 (a := 3) (by decide); have n4 := lv_neT c_1_4 (a := 4) (by decide); have n5 := lv_neT c_1_5 (a := 5) (by decide); have n6 := lv_neT c_1_6 (a := 6) (by decide); have n7 := lv_neT c_1_7 (a := 7) (by decide); omega) (by decide) ?_
  refine lv_aload_n hx hb dX13_count_100 rfl (lv_at hl 0 rfl) ?_
  refine lv_iconst (v := 0) hx hb dX13_count_101 (by decide) ?_
  refine c_m (k_V (As := [.int 0]) (rest := []) F (k_X13_finds x 0 (by decide)) (cwV 1 hts (lw_V q1238 q1240 qs47 q107 q1241) rfl rfl rfl (by decide +kernel) ⟨Nat.le_of_ble_eq_true rfl, Nat.le_of_ble_eq_true rfl⟩) hI hK (hw.recv hI hK (mf_main) rfl) rfl hl.1 rfl (Nat.le_of_ble_eq_true rfl) dX13_count_102 ⟨Nat.le_of_ble_eq_true rfl, Nat.le_of_ble_eq_true rfl⟩) hS (fun H1 locs1 hI hS => ?_)
  obtain ⟨x1, ex1⟩ : ∃ z, z = (fndM x 0) := ⟨_, rfl⟩
  rw [← ex1] at hI
  exact W.iret hx hb hr (fun t ht _ => ⟨rI (by first | (simp only [a_count, aR, if_neg c_1_0, if_neg c_1_1, if_neg c_1_2, if_neg c_1_3, if_neg c_1_4, if_neg c_1_5, if_neg c_1_6, if_neg c_1_7]; done) | (simp [a_count, aR, c_1_0, c_1_1, c_1_2, c_1_3, c_1_4, c_1_5, c_1_6, c_1_7]; done)), by rw [ht]; exact hw_eq hI (congrArg (cfM D L) (by first | (rw [ex1]; simp only [a_count, aM, if_neg c_1_0, if_neg c_1_1, if_neg c_1_2, if_neg c_1_3, if_neg c_1_4, if_neg c_1_5, if_neg c_1_6, if_neg c_1_7]; done) | (simp only [a_count, aM, ys_self, if_neg c_1_0, if_neg c_1_1, if_neg c_1_2, if_neg c_1_3, if_neg c_1_4, if_neg c_1_5, if_neg c_1_6, if_neg c_1_7]; done) | (rw [ex1]; simp [a_count, aM, c_1_0, c_1_1, c_1_2, c_1_3, c_1_4, c_1_5, c_1_6, c_1_7]; done) | (simp [a_count, aM, c_1_0, c_1_1, c_1_2, c_1_3, c_1_4, c_1_5, c_1_6, c_1_7, ys_self]; done))), hS.F ht⟩) hS.2.2 dX13_count_105
theorem k_X13_status {l : Launch} {D : va_G} {L : Nat → Nat} {A : Nat → Prop} (x : mst) (k : Int32) : Met l yX13_status (ws_ yX13_status cX13_status 4 (some .int)) ({ frames := 1, cells := 0, slots := 0, locals := 25 } : Room) (va_Pc [.ref (L 0), .int k] (pI D (cfM D L x) A)) (nQ D (cfM D L (aM x (a_status (x.2.1 1) (x.1 0) k))) A (some (.int (aR (a_status (x.2.1 1) (x.1 0) k))))) 0 0 A := by
  refine met_I (by decide) rfl (Nat.le_of_ble_eq_true rfl) ?_
  intro p e s m below meth c ls hx hb hr hml hown hts hlocks hl hI hK
  have F : CallFix p m c cX13_status 4 s _ lw_all RX13 := ⟨hx, hb, hml, hown, hts⟩
  have hl : lv_has ls 4 [(0, .ref (L 0)), (1, .int k)] := hl
  have hS : va_S A s.heap s.heap [] := va_S.rf
  refine lv_iload_n hx hb dX13_status_0 rfl (lv_at hl 1 rfl) ?_
  refine lv_i2l (v := (k : Int32).toInt64) hx hb dX13_status_1 rfl ?_
  refine lv_ldc2 (v := -1) hx hb hown (hts _ q1577) dX13_status_2 ?_
  refine lv_ldc2 (v := 6) hx hb hown (hts _ q1276) dX13_status_5 ?_
  refine c_r (k_S (As := [.long ((k : Int32).toInt64), .long (-1), .long 6]) (rest := []) F (k_X13_in k (-1) 6 ((k : Int32).toInt64 : Int64) (-1 : Int64) (6 : Int64) rfl (by decide) (by decide)) (va_cwS 3 hts (lw_S q1227 q1228 q107 q1229) rfl rfl rfl (by decide +kernel) ⟨Nat.le_of_ble_eq_true rfl, Nat.le_of_ble_eq_true rfl⟩) rfl hl.1 rfl (Nat.le_of_ble_eq_true rfl) dX13_status_8 ⟨Nat.le_of_ble_eq_true rfl, Nat.le_of_ble_eq_true rfl⟩) ?_
  refine lv_if_ne (tgt := 20) hx hb dX13_status_11 (by decide) (fun c_11 => ?_) (fun c_11 => ?_)
  · skip
    refine lv_iconst (v := 0) hx hb dX13_status_20 (by decide) ?_
    refine lv_istore_n (lv' := [(2, .int 0), (0, .ref (L 0)), (1, .int k)]) hx hb dX13_status_21 rfl hl (by decide) rfl (fun ls hl => ?_)
    refine lv_iconst (v := 0) hx hb dX13_status_22 (by decide) ?_
    refine lv_istore_n (lv' := [(3, .int 0), (2, .int 0), (0, .ref (L 0)), (1, .int k)]) hx hb dX13_status_23 rfl hl (by decide) rfl (fun ls hl => ?_)
    have lp24 : ∀ (fuel : Nat) (i : Nat), (i ≤ 7) → 7 - i < fuel → ∀ (v2 : Int32) (v3 : Int32), v2 = (itr (sttS (x.2.1 1) (-1)) 0 i) → v3 = nI i → ∀ (xc24 : mst), xc24 = x → ∀ (H : Heap) (locs : List Loc), hw D (cfM D L xc24) A H → va_S A s.heap H locs → ∀ (ls : Array Slot), lv_has ls 4 [(0, .ref (L 0)), (1, .int k), (2, .int v2), (3, .int v3)] → W p l e ({ frames := 1, cells := 0, slots := 0, locals := 25 } : Room) s m ([.ref (L 0), .int k] : List Value).toArray below meth c H locs 0 0 (MQ below (nQ D (cfM D L (aM x (a_status (x.2.1 1) (x.1 0) k))) A (some (.int (aR (a_status (x.2.1 1) (x.1 0) k))))) ([.ref (L 0), .int k] : List Value).toArray s 0 0 A) (F0 m 24 ls []) := by
      intro fuel
      induction fuel with
      | zero => intro i hi hf; exact absurd hf (Nat.not_lt_zero _)
      | succ fuel ih24 =>
        intro i hi hf24 v2 v3 e2 e3  xc24 exc24 H locs hI hS ls hl
        subst e2 e3
        refine lv_iload_n hx hb dX13_status_24 rfl (lv_at hl 3 rfl) ?_
        refine lv_bipush (v := 7) hx hb dX13_status_25 (by decide) ?_
        refine lv_icmp_ge (tgt := 45) hx hb dX13_status_27 (by decide) (fun c_27 => ?_) (fun c_27 => ?_)
        · skip
          have c_27 : 7 ≤ i := (nle (a := 7) (b := i) (rfl) (rfl) (by omega) (by omega)).mp c_27
          refine lv_iload_n hx hb dX13_status_45 rfl (lv_at hl 1 rfl) ?_
          refine lv_if_ge (tgt := 53) hx hb dX13_status_46 (by decide) (fun c_46 => ?_) (fun c_46 => ?_)
          · skip
            have c_46 := Int32.not_lt.mpr c_46
            obtain ⟨q, hq, ek⟩ := in_m6 c_11 c_46
            refine lv_aload_n hx hb dX13_status_53 rfl (lv_at hl 0 rfl) ?_
            refine r_get (C := RX13) (T := TX13) (N := 18) hx hb hts in_X13 hown hK hI (mf_main) rfl 5 (by decide) (hts _ q1169) (fun _ h => h) rfl dX13_status_54 ?_
            refine lv_iload_n hx hb dX13_status_57 rfl (lv_at hl 1 rfl) ?_
            refine n_iald (k := q) hx hb hK hI (mf_found) (ek) (by omega) (by decide) dX13_status_58 ?_
            exact W.iret hx hb hr (fun t ht _ => ⟨rI (by rw [a_status, if_neg c_11, aR]; first | (rw [stt_q ek (by omega), exc24]; done) | (rw [in_m1 c_11 c_46, sttI, show i = 7 by omega])), by rw [ht]; exact hw_eq hI (congrArg (cfM D L) (by rw [a_status, if_neg c_11, aM, ys_self]; exact exc24)), hS.F ht⟩) hS.2.2 dX13_status_59
          · skip
            have c_46 := Int32.not_le.mp c_46
            refine lv_iload_n hx hb dX13_status_49 rfl (lv_at hl 2 rfl) ?_
            refine lv_goto (tgt := 59) hx hb dX13_status_50 (by decide) ?_
            exact W.iret hx hb hr (fun t ht _ => ⟨rI (by rw [a_status, if_neg c_11, aR]; first | (rw [stt_q ek (by omega), exc24]; done) | (rw [in_m1 c_11 c_46, sttI, show i = 7 by omega])), by rw [ht]; exact hw_eq hI (congrArg (cfM D L) (by rw [a_status, if_neg c_11, aM, ys_self]; exact exc24)), hS.F ht⟩) hS.2.2 dX13_status_59
        · skip
          have c_27 : ¬ 7 ≤ i := fun z => c_27 ((nle (a := 7) (b := i) (rfl) (rfl) (by omega) (by omega)).mpr z)
          refine lv_iload_n hx hb dX13_status_30 rfl (lv_at hl 2 rfl) ?_
          refine lv_aload_n hx hb dX13_status_31 rfl (lv_at hl 0 rfl) ?_
          refine r_get (C := RX13) (T := TX13) (N := 18) hx hb hts in_X13 hown hK hI (mf_main) rfl 5 (by decide) (hts _ q1169) (fun _ h => h) rfl dX13_status_32 ?_
          refine lv_iload_n hx hb dX13_status_35 rfl (lv_at hl 3 rfl) ?_
          refine n_iald (k := i) hx hb hK hI (mf_found) (rfl) (by omega) (by decide) dX13_status_36 ?_
          refine lv_iadd hx hb dX13_status_37 ?_
          refine lv_istore_n (lv' := [(2, .int ((itr (sttS (x.2.1 1) (-1)) 0 i) + (xc24.2.1 1 i))), (0, .ref (L 0)), (1, .int k), (3, .int (nI i))]) hx hb dX13_status_38 rfl hl (by decide) rfl (fun ls hl => ?_)
          refine lv_iinc (v := (nI (i + 1))) (lv' := [(3, .int (nI (i + 1))), (2, .int ((itr (sttS (x.2.1 1) (-1)) 0 i) + (xc24.2.1 1 i))), (0, .ref (L 0)), (1, .int k)]) hx hb dX13_status_39 hl (k := 3) rfl (nI_1 _) (by decide) rfl (fun ls hl => ?_)
          refine lv_goto (tgt := 24) hx hb dX13_status_42 (by decide) ?_
          exact ih24 (i + 1) (by omega) (by omega) ((itr (sttS (x.2.1 1) (-1)) 0 i) + (xc24.2.1 1 i)) (nI (i + 1)) (by rw [itr_s, sttS, exc24, if_pos rfl]) (rfl) xc24 (exc24) _ _ hI hS ls (lv_sub hl [2, 3, 1, 0] rfl)
    exact lp24 (_ + 1) (0) (Nat.zero_le _) (Nat.lt_succ_self _) 0 0 (rfl) (rfl) x (rfl) _ _ hI hS ls (lv_sub hl [2, 3, 1, 0] rfl)
  · skip
    refine lv_aload_n hx hb dX13_status_14 rfl (lv_at hl 0 rfl) ?_
    refine lv_iconst (v := 0) hx hb dX13_status_15 (by decide) ?_
    refine c_m (k_V (As := [.int 0]) (rest := []) F (k_X13_finds x 0 (by decide)) (cwV 1 hts (lw_V q1238 q1240 qs47 q107 q1241) rfl rfl rfl (by decide +kernel) ⟨Nat.le_of_ble_eq_true rfl, Nat.le_of_ble_eq_true rfl⟩) hI hK (hw.recv hI hK (mf_main) rfl) rfl hl.1 rfl (Nat.le_of_ble_eq_true rfl) dX13_status_16 ⟨Nat.le_of_ble_eq_true rfl, Nat.le_of_ble_eq_true rfl⟩) hS (fun H1 locs1 hI hS => ?_)
    obtain ⟨x1, ex1⟩ : ∃ z, z = (fndM x 0) := ⟨_, rfl⟩
    rw [← ex1] at hI
    exact W.iret hx hb hr (fun t ht _ => ⟨rI (by simp only [a_status, aR, if_pos c_11]), by rw [ht]; exact hw_eq hI (congrArg (cfM D L) (by rw [ex1]; simp only [a_status, aM, if_pos c_11])), hS.F ht⟩) hS.2.2 dX13_status_19
theorem k_X13_hold {l : Launch} {D : va_G} {L : Nat → Nat} {A : Nat → Prop} (x : mst) (hO : wOk (x.1 0)) (s0 g : Int32) : Met l yX13_hold (ws_ yX13_hold cX13_hold 3 (some .int)) ({ frames := 1, cells := 0, slots := 0, locals := 25 } : Room) (va_Pc [.ref (L 0), .int s0, .int g] (pI D (cfM D L x) A)) (nQ D (cfM D L (aM x (a_hold (x.1 0) s0 g))) A (some (.int (aR (a_hold (x.1 0) s0 g))))) 0 0 A := by
  refine met_I (by decide) rfl (Nat.le_of_ble_eq_true rfl) ?_
  intro p e s m below meth c ls hx hb hr hml hown hts hlocks hl hI hK
  have F : CallFix p m c cX13_hold 3 s _ lw_all RX13 := ⟨hx, hb, hml, hown, hts⟩
  have hl : lv_has ls 3 [(0, .ref (L 0)), (1, .int s0), (2, .int g)] := hl
  have hS : va_S A s.heap s.heap [] := va_S.rf
  obtain ⟨nn, hn, h8⟩ : ∃ n, x.1 0 1 0 = nI n ∧ n ≤ 8 := ⟨_, hO.n⟩
  have hN : wN (x.1 0) = nn := by unfold wN; rw [hn, nI_clamp (by omega)]
  refine lv_iload_n hx hb dX13_hold_0 rfl (lv_at hl 1 rfl) ?_
  refine lv_i2l (v := (s0 : Int32).toInt64) hx hb dX13_hold_1 rfl ?_
  refine lv_lconst (v := 0) hx hb dX13_hold_2 (by decide) ?_
  refine lv_ldc2 (v := 9) hx hb hown (hts _ q1576) dX13_hold_3 ?_
  refine c_r (k_S (As := [.long ((s0 : Int32).toInt64), .long 0, .long 9]) (rest := []) F (k_X13_in s0 0 9 ((s0 : Int32).toInt64 : Int64) (0 : Int64) (9 : Int64) rfl (by decide) (by decide)) (va_cwS 3 hts (lw_S q1227 q1228 q107 q1229) rfl rfl rfl (by decide +kernel) ⟨Nat.le_of_ble_eq_true rfl, Nat.le_of_ble_eq_true rfl⟩) rfl hl.1 rfl (Nat.le_of_ble_eq_true rfl) dX13_hold_6 ⟨Nat.le_of_ble_eq_true rfl, Nat.le_of_ble_eq_true rfl⟩) ?_
  refine lv_if_eq (tgt := 32) hx hb dX13_hold_9 (by decide) (fun c_9 => ?_) (fun c_9 => ?_)
  · skip
    refine lv_aload_n hx hb dX13_hold_32 rfl (lv_at hl 0 rfl) ?_
    refine lv_iconst (v := 0) hx hb dX13_hold_33 (by decide) ?_
    refine c_m (k_V (As := [.int 0]) (rest := []) F (k_X13_finds x 0 (by decide)) (cwV 1 hts (lw_V q1238 q1240 qs47 q107 q1241) rfl rfl rfl (by decide +kernel) ⟨Nat.le_of_ble_eq_true rfl, Nat.le_of_ble_eq_true rfl⟩) hI hK (hw.recv hI hK (mf_main) rfl) rfl hl.1 rfl (Nat.le_of_ble_eq_true rfl) dX13_hold_34 ⟨Nat.le_of_ble_eq_true rfl, Nat.le_of_ble_eq_true rfl⟩) hS (fun H1 locs1 hI hS => ?_)
    obtain ⟨x1, ex1⟩ : ∃ z, z = (fndM x 0) := ⟨_, rfl⟩
    rw [← ex1] at hI
    exact W.iret hx hb hr (fun t ht _ => ⟨rI (by first | (simp [a_hold, aR, c_9]; done) | (rw [hold_n hn h8 c_29]; rfl)), by rw [ht]; exact hw_eq hI (congrArg (cfM D L) (by first | (rw [ex1]; simp [a_hold, aM, c_9]; done) | (rw [ex1, hold_n hn h8 c_29]; rfl))), hS.F ht⟩) hS.2.2 dX13_hold_37
  · skip
    refine lv_iload_n hx hb dX13_hold_12 rfl (lv_at hl 2 rfl) ?_
    refine lv_i2l (v := (g : Int32).toInt64) hx hb dX13_hold_13 rfl ?_
    refine lv_ldc2 (v := -1) hx hb hown (hts _ q1577) dX13_hold_14 ?_
    refine lv_aload_n hx hb dX13_hold_17 rfl (lv_at hl 0 rfl) ?_
    refine r_get (C := RX13) (T := TX13) (N := 18) hx hb hts in_X13 hown hK hI (mf_main) rfl 0 (by decide) (hts _ q1164) (fun _ h => h) rfl dX13_hold_18 ?_
    refine lv_iconst (v := 0) hx hb dX13_hold_21 (by decide) ?_
    refine n_ialdv (k := 0) (v := (x.1 0 1 0)) hx hb hK hI (mf_d) (rfl) (by decide) (by decide) (rfl) dX13_hold_22 ?_
    refine lv_iconst (v := 1) hx hb dX13_hold_23 (by decide) ?_
    refine lv_isub hx hb dX13_hold_24 ?_
    refine lv_i2l (v := (((x.1 0 1 0) - (1 : Int32)) : Int32).toInt64) hx hb dX13_hold_25 rfl ?_
    refine c_r (k_S (As := [.long ((g : Int32).toInt64), .long (-1), .long ((((x.1 0 1 0) - (1 : Int32)) : Int32).toInt64)]) (rest := []) F (k_X13_in g (-1) ((x.1 0 1 0) - (1 : Int32)) ((g : Int32).toInt64 : Int64) (-1 : Int64) ((((x.1 0 1 0) - (1 : Int32)) : Int32).toInt64 : Int64) rfl (by decide) rfl) (va_cwS 3 hts (lw_S q1227 q1228 q107 q1229) rfl rfl rfl (by decide +kernel) ⟨Nat.le_of_ble_eq_true rfl, Nat.le_of_ble_eq_true rfl⟩) rfl hl.1 rfl (Nat.le_of_ble_eq_true rfl) dX13_hold_26 ⟨Nat.le_of_ble_eq_true rfl, Nat.le_of_ble_eq_true rfl⟩) ?_
    refine lv_if_ne (tgt := 38) hx hb dX13_hold_29 (by decide) (fun c_29 => ?_) (fun c_29 => ?_)
    · skip
      obtain ⟨j, hj, es0⟩ := inI_to (b := 9) rfl (by decide) c_9
      have es02 : s0.toNatClampNeg = j := by rw [es0, nI_clamp (by omega)]
      subst es0
      refine lv_aload_n hx hb dX13_hold_38 rfl (lv_at hl 0 rfl) ?_
      refine r_get (C := RX13) (T := TX13) (N := 18) hx hb hts in_X13 hown hK hI (mf_main) rfl 0 (by decide) (hts _ q1164) (fun _ h => h) rfl dX13_hold_39 ?_
      refine lv_bipush (v := 65) hx hb dX13_hold_42 (by decide) ?_
      refine lv_iload_n hx hb dX13_hold_44 rfl (lv_at hl 1 rfl) ?_
      refine lv_iadd hx hb dX13_hold_45 ?_
      refine lv_iload_n hx hb dX13_hold_46 rfl (lv_at hl 2 rfl) ?_
      refine lv_iconst (v := 1) hx hb dX13_hold_47 (by decide) ?_
      refine lv_iadd hx hb dX13_hold_48 ?_
      obtain ⟨x2, ex2⟩ : ∃ z, z = ys x 0 (u2 (x.1 0) 9 j g) := ⟨_, rfl⟩
      have hf_3 : (x2.1 0 1 0) = nI nn := by rw [ex2, ys_at, u2_ne (by omega)]; exact hn
      refine n_iast (cf' := cfM D L x2) (k := (65 + j)) hx hb hK hI hS (mf_d) (na_add (rfl) (rfl)) (by omega) (by decide) (by rw [ex2]; exact ms_w (w := 0) (by decide) (mu_hold _ _ _) (by rw [u2_ne (by decide)])) dX13_hold_49 (fun H1 locs1 hI hS => ?_)
      refine lv_iconst (v := 1) hx hb dX13_hold_50 (by decide) ?_
      exact W.iret hx hb hr (fun t ht _ => ⟨rI (by rw [hold_y hn h8 c_9 c_29]; rfl), by rw [ht]; exact hw_eq hI (congrArg (cfM D L) (by rw [hold_y hn h8 c_9 c_29, es02, ex2]; rfl)), hS.F ht⟩) hS.2.2 dX13_hold_51
    · skip
      refine lv_aload_n hx hb dX13_hold_32 rfl (lv_at hl 0 rfl) ?_
      refine lv_iconst (v := 0) hx hb dX13_hold_33 (by decide) ?_
      refine c_m (k_V (As := [.int 0]) (rest := []) F (k_X13_finds x 0 (by decide)) (cwV 1 hts (lw_V q1238 q1240 qs47 q107 q1241) rfl rfl rfl (by decide +kernel) ⟨Nat.le_of_ble_eq_true rfl, Nat.le_of_ble_eq_true rfl⟩) hI hK (hw.recv hI hK (mf_main) rfl) rfl hl.1 rfl (Nat.le_of_ble_eq_true rfl) dX13_hold_34 ⟨Nat.le_of_ble_eq_true rfl, Nat.le_of_ble_eq_true rfl⟩) hS (fun H1 locs1 hI hS => ?_)
      obtain ⟨x4, ex4⟩ : ∃ z, z = (fndM x 0) := ⟨_, rfl⟩
      rw [← ex4] at hI
      exact W.iret hx hb hr (fun t ht _ => ⟨rI (by first | (simp [a_hold, aR, c_9, c_29]; done) | (rw [hold_n hn h8 c_29]; rfl)), by rw [ht]; exact hw_eq hI (congrArg (cfM D L) (by first | (rw [ex4]; simp [a_hold, aM, c_9, c_29]; done) | (rw [ex4, hold_n hn h8 c_29]; rfl))), hS.F ht⟩) hS.2.2 dX13_hold_37
theorem k_X13_as {l : Launch} {D : va_G} {L : Nat → Nat} {A : Nat → Prop} (x : mst) (hO : wOk (x.1 0)) (s0 kd : Int32) : Met l yX13_as (ws_ yX13_as cX13_as 5 (some .int)) ({ frames := 1, cells := 0, slots := 0, locals := 25 } : Room) (va_Pc [.ref (L 0), .int s0, .int kd] (pI D (cfM D L x) A)) (nQ D (cfM D L (aM x (a_as (x.1 0) s0 kd))) A (some (.int (aR (a_as (x.1 0) s0 kd))))) 0 0 A := by
  refine met_I (by decide) rfl (Nat.le_of_ble_eq_true rfl) ?_
  intro p e s m below meth c ls hx hb hr hml hown hts hlocks hl hI hK
  have F : CallFix p m c cX13_as 5 s _ lw_all RX13 := ⟨hx, hb, hml, hown, hts⟩
  have hl : lv_has ls 5 [(0, .ref (L 0)), (1, .int s0), (2, .int kd)] := hl
  have hS : va_S A s.heap s.heap [] := va_S.rf
  refine lv_iload_n hx hb dX13_as_0 rfl (lv_at hl 1 rfl) ?_
  refine lv_i2l (v := (s0 : Int32).toInt64) hx hb dX13_as_1 rfl ?_
  refine lv_lconst (v := 0) hx hb dX13_as_2 (by decide) ?_
  refine lv_ldc2 (v := 9) hx hb hown (hts _ q1576) dX13_as_3 ?_
  refine c_r (k_S (As := [.long ((s0 : Int32).toInt64), .long 0, .long 9]) (rest := []) F (k_X13_in s0 0 9 ((s0 : Int32).toInt64 : Int64) (0 : Int64) (9 : Int64) rfl (by decide) (by decide)) (va_cwS 3 hts (lw_S q1227 q1228 q107 q1229) rfl rfl rfl (by decide +kernel) ⟨Nat.le_of_ble_eq_true rfl, Nat.le_of_ble_eq_true rfl⟩) rfl hl.1 rfl (Nat.le_of_ble_eq_true rfl) dX13_as_6 ⟨Nat.le_of_ble_eq_true rfl, Nat.le_of_ble_eq_true rfl⟩) ?_
  refine lv_if_eq (tgt := 24) hx hb dX13_as_9 (by decide) (fun c_9 => ?_) (fun c_9 => ?_)
  · skip
    refine lv_aload_n hx hb dX13_as_24 rfl (lv_at hl 0 rfl) ?_
    refine lv_iconst (v := 0) hx hb dX13_as_25 (by decide) ?_
    refine c_m (k_V (As := [.int 0]) (rest := []) F (k_X13_finds x 0 (by decide)) (cwV 1 hts (lw_V q1238 q1240 qs47 q107 q1241) rfl rfl rfl (by decide +kernel) ⟨Nat.le_of_ble_eq_true rfl, Nat.le_of_ble_eq_true rfl⟩) hI hK (hw.recv hI hK (mf_main) rfl) rfl hl.1 rfl (Nat.le_of_ble_eq_true rfl) dX13_as_26 ⟨Nat.le_of_ble_eq_true rfl, Nat.le_of_ble_eq_true rfl⟩) hS (fun H1 locs1 hI hS => ?_)
    obtain ⟨x1, ex1⟩ : ∃ z, z = (fndM x 0) := ⟨_, rfl⟩
    rw [← ex1] at hI
    exact W.iret hx hb hr (fun t ht _ => ⟨rI (by first | (simp [a_as, aR, c_9]; done)), by rw [ht]; exact hw_eq hI (congrArg (cfM D L) (by first | (rw [ex1]; simp [a_as, aM, c_9]; done))), hS.F ht⟩) hS.2.2 dX13_as_29
  · skip
    refine lv_iload_n hx hb dX13_as_12 rfl (lv_at hl 2 rfl) ?_
    refine lv_i2l (v := (kd : Int32).toInt64) hx hb dX13_as_13 rfl ?_
    refine lv_lconst (v := 0) hx hb dX13_as_14 (by decide) ?_
    refine lv_ldc2 (v := 6) hx hb hown (hts _ q1276) dX13_as_15 ?_
    refine c_r (k_S (As := [.long ((kd : Int32).toInt64), .long 0, .long 6]) (rest := []) F (k_X13_in kd 0 6 ((kd : Int32).toInt64 : Int64) (0 : Int64) (6 : Int64) rfl (by decide) (by decide)) (va_cwS 3 hts (lw_S q1227 q1228 q107 q1229) rfl rfl rfl (by decide +kernel) ⟨Nat.le_of_ble_eq_true rfl, Nat.le_of_ble_eq_true rfl⟩) rfl hl.1 rfl (Nat.le_of_ble_eq_true rfl) dX13_as_18 ⟨Nat.le_of_ble_eq_true rfl, Nat.le_of_ble_eq_true rfl⟩) ?_
    refine lv_if_ne (tgt := 30) hx hb dX13_as_21 (by decide) (fun c_21 => ?_) (fun c_21 => ?_)
    · skip
      obtain ⟨j, hj, es0⟩ := inI_to (b := 9) rfl (by decide) c_9
      have es02 : s0.toNatClampNeg = j := by rw [es0, nI_clamp (by omega)]
      subst es0
      refine lv_aload_n hx hb dX13_as_30 rfl (lv_at hl 0 rfl) ?_
      refine r_get (C := RX13) (T := TX13) (N := 18) hx hb hts in_X13 hown hK hI (mf_main) rfl 0 (by decide) (hts _ q1164) (fun _ h => h) rfl dX13_as_31 ?_
      refine lv_bipush (v := 65) hx hb dX13_as_34 (by decide) ?_
      refine lv_iload_n hx hb dX13_as_36 rfl (lv_at hl 1 rfl) ?_
      refine lv_iadd hx hb dX13_as_37 ?_
      refine n_ialdv (k := (65 + j)) (v := ((x.1 0 9 j) + 1)) hx hb hK hI (mf_d) (na_add (rfl) (rfl)) (by omega) (by decide) (md_hold _ _) dX13_as_38 ?_
      refine lv_if_ne (tgt := 48) hx hb dX13_as_39 (by decide) (fun c_39 => ?_) (fun c_39 => ?_)
      · skip
        obtain ⟨q, hq8, eq8⟩ := (hO.2.2.2.2 j (by omega)).resolve_left (fun z => c_39 (by rw [z]; rfl))
        have eq9 : (x.1 0 9 j) + 1 - 1 = nI q := by rw [eq8, nI_1, nI_pred]
        refine lv_aload_n hx hb dX13_as_48 rfl (lv_at hl 0 rfl) ?_
        refine r_get (C := RX13) (T := TX13) (N := 18) hx hb hts in_X13 hown hK hI (mf_main) rfl 0 (by decide) (hts _ q1164) (fun _ h => h) rfl dX13_as_49 ?_
        refine lv_bipush (v := 65) hx hb dX13_as_52 (by decide) ?_
        refine lv_iload_n hx hb dX13_as_54 rfl (lv_at hl 1 rfl) ?_
        refine lv_iadd hx hb dX13_as_55 ?_
        refine n_ialdv (k := (65 + j)) (v := ((x.1 0 9 j) + 1)) hx hb hK hI (mf_d) (na_add (rfl) (rfl)) (by omega) (by decide) (md_hold _ _) dX13_as_56 ?_
        refine lv_iconst (v := 1) hx hb dX13_as_57 (by decide) ?_
        refine lv_isub hx hb dX13_as_58 ?_
        refine lv_istore_n (lv' := [(3, .int (((x.1 0 9 j) + 1) - (1 : Int32))), (0, .ref (L 0)), (1, .int (nI j)), (2, .int kd)]) hx hb dX13_as_59 rfl hl (by decide) rfl (fun ls hl => ?_)
        refine lv_aload_n hx hb dX13_as_60 rfl (lv_at hl 1 rfl) ?_
        refine lv_iload_n hx hb dX13_as_61 rfl (lv_at hl 0 rfl) ?_
        refine lv_iconst (v := 0) hx hb dX13_as_62 (by decide) ?_
        refine c_r (k_V (As := [.int (((x.1 0 9 j) + 1) - (1 : Int32)), .int 0]) (rest := []) F (k_X13_its x (((x.1 0 9 j) + 1) - (1 : Int32)) 0 q 0 (by omega) (by omega) eq9 rfl) (cwV 2 hts (lw_V q1256 q1258 qs49 q107 q1259) rfl rfl rfl (by decide +kernel) ⟨Nat.le_of_ble_eq_true rfl, Nat.le_of_ble_eq_true rfl⟩) hI hK (hw.recv hI hK (mf_main) rfl) rfl hl.1 rfl (Nat.le_of_ble_eq_true rfl) dX13_as_63 ⟨Nat.le_of_ble_eq_true rfl, Nat.le_of_ble_eq_true rfl⟩) ?_
        refine lv_istore (lv' := [(4, .int (x.1 0 (2 + 0) q)), (3, .int (((x.1 0 9 j) + 1) - (1 : Int32))), (0, .ref (L 0)), (1, .int (nI j)), (2, .int kd)]) hx hb dX13_as_66 hl (by decide) rfl (fun ls hl => ?_)
        have hκ := (hO.k hq8).2
        have ek := (hO.k hq8).1
        refine lv_iload_n hx hb dX13_as_68 rfl (lv_at hl 4 rfl) ?_
        refine lv_if_eq (tgt := 99) hx hb dX13_as_69 (by decide) (fun c_69 => ?_) (fun c_69 => ?_)
        · skip
          refine lv_iload_n hx hb dX13_as_99 rfl (lv_at hl 1 rfl) ?_
          refine lv_goto (tgt := 108) hx hb dX13_as_100 (by decide) ?_
          exact W.iret hx hb hr (fun t ht _ => ⟨rI (by (try simp only [ek] at c_69); rw [as_v c_9 c_21 es02 eq8]; first | (rw [if_neg (un_m hκ (by simp [c_9, c_21, c_39, c_69])), eq9]; rfl) | (rw [if_pos (un_n hκ c_69 c_75 c_84 c_96)]; rfl)), by rw [ht]; exact hw_eq hI (congrArg (cfM D L) (by (try simp only [ek] at c_69); rw [as_v c_9 c_21 es02 eq8]; first | (rw [if_neg (un_m hκ (by simp [c_9, c_21, c_39, c_69]))]; exact (ys_self _ _).symm) | (rw [if_pos (un_n hκ c_69 c_75 c_84 c_96), ]; rfl))), hS.F ht⟩) hS.2.2 dX13_as_108
        · skip
          refine lv_iload_n hx hb dX13_as_72 rfl (lv_at hl 4 rfl) ?_
          refine lv_iload hx hb dX13_as_73 (lv_at hl 0 rfl) ?_
          refine lv_icmp_eq (tgt := 99) hx hb dX13_as_75 (by decide) (fun c_75 => ?_) (fun c_75 => ?_)
          · skip
            refine lv_iload_n hx hb dX13_as_99 rfl (lv_at hl 1 rfl) ?_
            refine lv_goto (tgt := 108) hx hb dX13_as_100 (by decide) ?_
            exact W.iret hx hb hr (fun t ht _ => ⟨rI (by (try simp only [ek] at c_75); rw [as_v c_9 c_21 es02 eq8]; first | (rw [if_neg (un_m hκ (by simp [c_9, c_21, c_39, c_69, c_75])), eq9]; rfl) | (rw [if_pos (un_n hκ c_69 c_75 c_84 c_96)]; rfl)), by rw [ht]; exact hw_eq hI (congrArg (cfM D L) (by (try simp only [ek] at c_75); rw [as_v c_9 c_21 es02 eq8]; first | (rw [if_neg (un_m hκ (by simp [c_9, c_21, c_39, c_69, c_75]))]; exact (ys_self _ _).symm) | (rw [if_pos (un_n hκ c_69 c_75 c_84 c_96), ]; rfl))), hS.F ht⟩) hS.2.2 dX13_as_108
          · skip
            refine lv_iload_n hx hb dX13_as_78 rfl (lv_at hl 4 rfl) ?_
            refine lv_iload hx hb dX13_as_79 (lv_at hl 0 rfl) ?_
            refine c_r (k_S (As := [.int (x.1 0 (2 + 0) q)]) (rest := [.int kd]) F (k_X13_above (x.1 0 (2 + 0) q)) (va_cwS 1 hts (lw_S q1582 q1583 q107 q1584) rfl rfl rfl (by decide +kernel) ⟨Nat.le_of_ble_eq_true rfl, Nat.le_of_ble_eq_true rfl⟩) rfl hl.1 rfl (Nat.le_of_ble_eq_true rfl) dX13_as_81 ⟨Nat.le_of_ble_eq_true rfl, Nat.le_of_ble_eq_true rfl⟩) ?_
            refine lv_icmp_eq (tgt := 99) hx hb dX13_as_84 (by decide) (fun c_84 => ?_) (fun c_84 => ?_)
            · skip
              refine lv_iload_n hx hb dX13_as_99 rfl (lv_at hl 1 rfl) ?_
              refine lv_goto (tgt := 108) hx hb dX13_as_100 (by decide) ?_
              exact W.iret hx hb hr (fun t ht _ => ⟨rI (by (try simp only [ek] at c_75 c_84); rw [as_v c_9 c_21 es02 eq8]; first | (rw [if_neg (un_m hκ (by simp [c_9, c_21, c_39, c_69, c_75, c_84])), eq9]; rfl) | (rw [if_pos (un_n hκ c_69 c_75 c_84 c_96)]; rfl)), by rw [ht]; exact hw_eq hI (congrArg (cfM D L) (by (try simp only [ek] at c_75 c_84); rw [as_v c_9 c_21 es02 eq8]; first | (rw [if_neg (un_m hκ (by simp [c_9, c_21, c_39, c_69, c_75, c_84]))]; exact (ys_self _ _).symm) | (rw [if_pos (un_n hκ c_69 c_75 c_84 c_96), ]; rfl))), hS.F ht⟩) hS.2.2 dX13_as_108
            · skip
              refine lv_iload_n hx hb dX13_as_87 rfl (lv_at hl 4 rfl) ?_
              refine lv_iload hx hb dX13_as_88 (lv_at hl 0 rfl) ?_
              refine c_r (k_S (As := [.int (x.1 0 (2 + 0) q)]) (rest := [.int kd]) F (k_X13_above (x.1 0 (2 + 0) q)) (va_cwS 1 hts (lw_S q1582 q1583 q107 q1584) rfl rfl rfl (by decide +kernel) ⟨Nat.le_of_ble_eq_true rfl, Nat.le_of_ble_eq_true rfl⟩) rfl hl.1 rfl (Nat.le_of_ble_eq_true rfl) dX13_as_90 ⟨Nat.le_of_ble_eq_true rfl, Nat.le_of_ble_eq_true rfl⟩) ?_
              refine c_r (k_S (As := [.int (abI (x.1 0 (2 + 0) q))]) (rest := [.int kd]) F (k_X13_above (abI (x.1 0 (2 + 0) q))) (va_cwS 1 hts (lw_S q1582 q1583 q107 q1584) rfl rfl rfl (by decide +kernel) ⟨Nat.le_of_ble_eq_true rfl, Nat.le_of_ble_eq_true rfl⟩) rfl hl.1 rfl (Nat.le_of_ble_eq_true rfl) dX13_as_93 ⟨Nat.le_of_ble_eq_true rfl, Nat.le_of_ble_eq_true rfl⟩) ?_
              refine lv_icmp_ne (tgt := 103) hx hb dX13_as_96 (by decide) (fun c_96 => ?_) (fun c_96 => ?_)
              · skip
                refine lv_aload_n hx hb dX13_as_103 rfl (lv_at hl 2 rfl) ?_
                refine lv_iconst (v := 2) hx hb dX13_as_104 (by decide) ?_
                refine c_m (k_V (As := [.int 2]) (rest := []) F (k_X13_finds x 2 (by decide)) (cwV 1 hts (lw_V q1238 q1240 qs47 q107 q1241) rfl rfl rfl (by decide +kernel) ⟨Nat.le_of_ble_eq_true rfl, Nat.le_of_ble_eq_true rfl⟩) hI hK (hw.recv hI hK (mf_main) rfl) rfl hl.1 rfl (Nat.le_of_ble_eq_true rfl) dX13_as_105 ⟨Nat.le_of_ble_eq_true rfl, Nat.le_of_ble_eq_true rfl⟩) hS (fun H1 locs1 hI hS => ?_)
                obtain ⟨x2, ex2⟩ : ∃ z, z = (fndM x 2) := ⟨_, rfl⟩
                rw [← ex2] at hI
                exact W.iret hx hb hr (fun t ht _ => ⟨rI (by (try simp only [ek] at c_75 c_84 c_96); rw [as_v c_9 c_21 es02 eq8]; first | (rw [if_neg (un_m hκ (by simp [c_9, c_21, c_39, c_69, c_75, c_84, c_96])), eq9]; rfl) | (rw [if_pos (un_n hκ c_69 c_75 c_84 c_96)]; rfl)), by rw [ht]; exact hw_eq hI (congrArg (cfM D L) (by (try simp only [ek] at c_75 c_84 c_96); rw [as_v c_9 c_21 es02 eq8]; first | (rw [if_neg (un_m hκ (by simp [c_9, c_21, c_39, c_69, c_75, c_84, c_96]))]; exact (ys_self _ _).symm) | (rw [if_pos (un_n hκ c_69 c_75 c_84 c_96), ex2]; rfl))), hS.F ht⟩) hS.2.2 dX13_as_108
              · skip
                refine lv_iload_n hx hb dX13_as_99 rfl (lv_at hl 1 rfl) ?_
                refine lv_goto (tgt := 108) hx hb dX13_as_100 (by decide) ?_
                exact W.iret hx hb hr (fun t ht _ => ⟨rI (by (try simp only [ek] at c_75 c_84 c_96); rw [as_v c_9 c_21 es02 eq8]; first | (rw [if_neg (un_m hκ (by simp [c_9, c_21, c_39, c_69, c_75, c_84, c_96])), eq9]; rfl) | (rw [if_pos (un_n hκ c_69 c_75 c_84 c_96)]; rfl)), by rw [ht]; exact hw_eq hI (congrArg (cfM D L) (by (try simp only [ek] at c_75 c_84 c_96); rw [as_v c_9 c_21 es02 eq8]; first | (rw [if_neg (un_m hκ (by simp [c_9, c_21, c_39, c_69, c_75, c_84, c_96]))]; exact (ys_self _ _).symm) | (rw [if_pos (un_n hκ c_69 c_75 c_84 c_96), ]; rfl))), hS.F ht⟩) hS.2.2 dX13_as_108
      · skip
        refine lv_aload_n hx hb dX13_as_42 rfl (lv_at hl 0 rfl) ?_
        refine lv_iconst (v := 5) hx hb dX13_as_43 (by decide) ?_
        refine c_m (k_V (As := [.int 5]) (rest := []) F (k_X13_finds x 5 (by decide)) (cwV 1 hts (lw_V q1238 q1240 qs47 q107 q1241) rfl rfl rfl (by decide +kernel) ⟨Nat.le_of_ble_eq_true rfl, Nat.le_of_ble_eq_true rfl⟩) hI hK (hw.recv hI hK (mf_main) rfl) rfl hl.1 rfl (Nat.le_of_ble_eq_true rfl) dX13_as_44 ⟨Nat.le_of_ble_eq_true rfl, Nat.le_of_ble_eq_true rfl⟩) hS (fun H1 locs1 hI hS => ?_)
        obtain ⟨x3, ex3⟩ : ∃ z, z = (fndM x 5) := ⟨_, rfl⟩
        rw [← ex3] at hI
        exact W.iret hx hb hr (fun t ht _ => ⟨rI (by rw [as_0 c_9 c_21 es02 c_39]; rfl), by rw [ht]; exact hw_eq hI (congrArg (cfM D L) (by rw [ex3, as_0 c_9 c_21 es02 c_39]; rfl)), hS.F ht⟩) hS.2.2 dX13_as_47
    · skip
      refine lv_aload_n hx hb dX13_as_24 rfl (lv_at hl 0 rfl) ?_
      refine lv_iconst (v := 0) hx hb dX13_as_25 (by decide) ?_
      refine c_m (k_V (As := [.int 0]) (rest := []) F (k_X13_finds x 0 (by decide)) (cwV 1 hts (lw_V q1238 q1240 qs47 q107 q1241) rfl rfl rfl (by decide +kernel) ⟨Nat.le_of_ble_eq_true rfl, Nat.le_of_ble_eq_true rfl⟩) hI hK (hw.recv hI hK (mf_main) rfl) rfl hl.1 rfl (Nat.le_of_ble_eq_true rfl) dX13_as_26 ⟨Nat.le_of_ble_eq_true rfl, Nat.le_of_ble_eq_true rfl⟩) hS (fun H1 locs1 hI hS => ?_)
      obtain ⟨x4, ex4⟩ : ∃ z, z = (fndM x 0) := ⟨_, rfl⟩
      rw [← ex4] at hI
      exact W.iret hx hb hr (fun t ht _ => ⟨rI (by first | (simp [a_as, aR, c_9, c_21]; done)), by rw [ht]; exact hw_eq hI (congrArg (cfM D L) (by first | (rw [ex4]; simp [a_as, aM, c_9, c_21]; done))), hS.F ht⟩) hS.2.2 dX13_as_29
theorem k_X13_wipe {l : Launch} {D : va_G} {L : Nat → Nat} {A : Nat → Prop} (x : mst) : Met l yX13_wipe (ws_ yX13_wipe cX13_wipe 2 (some .int)) ({ frames := 0, cells := 0, slots := 0, locals := 0 } : Room) (va_Pc [.ref (L 0)] (pI D (cfM D L x) A)) (nQ D (cfM D L (yr x 0 1 0)) A (some (.int (x.2.1 0 1)))) 0 0 A := by
  refine met_I (by decide) rfl (Nat.le_of_ble_eq_true rfl) ?_
  intro p e s m below meth c ls hx hb hr hml hown hts hlocks hl hI hK
  have F : CallFix p m c cX13_wipe 2 s _ lw_all RX13 := ⟨hx, hb, hml, hown, hts⟩
  have hl : lv_has ls 2 [(0, .ref (L 0))] := hl
  have hS : va_S A s.heap s.heap [] := va_S.rf
  refine lv_aload_n hx hb dX13_wipe_0 rfl (lv_at hl 0 rfl) ?_
  refine r_get (C := RX13) (T := TX13) (N := 18) hx hb hts in_X13 hown hK hI (mf_main) rfl 7 (by decide) (hts _ q1171) (fun _ h => h) rfl dX13_wipe_1 ?_
  refine lv_istore_n (lv' := [(1, .int (x.2.1 0 1)), (0, .ref (L 0))]) hx hb dX13_wipe_4 rfl hl (by decide) rfl (fun ls hl => ?_)
  refine lv_aload_n hx hb dX13_wipe_5 rfl (lv_at hl 1 rfl) ?_
  refine lv_iconst (v := 0) hx hb dX13_wipe_6 (by decide) ?_
  obtain ⟨x1, ex1⟩ : ∃ z, z = yr x 0 1 0 := ⟨_, rfl⟩
  refine r_put (C := RX13) (T := TX13) (N := 18) (cf' := cfM D L x1) hx hb hts in_X13 tyX13 tyX13_ok nmX13 hown hK hI hS (mf_main) rfl 7 (by decide) (hts _ q1171) (fun _ h => h) rfl (ty := .int) (by decide +kernel) rfl rfl (Nat.le_of_ble_eq_true rfl) (by rw [ex1]; exact ms_main rfl (fun _ => rfl) (fun _ h => u2_ne h)) dX13_wipe_7 (fun H1 locs1 hI hS => ?_)
  refine lv_iload_n hx hb dX13_wipe_10 rfl (lv_at hl 0 rfl) ?_
  exact W.iret hx hb hr (fun t ht _ => ⟨rI (rfl), by rw [ht]; exact hw_eq hI (congrArg (cfM D L) (by rw [ex1])), hS.F ht⟩) hS.2.2 dX13_wipe_11
theorem k_X13_tear {l : Launch} {D : va_G} {L : Nat → Nat} {A : Nat → Prop} (x : mst) : Met l yX13_tear (ws_ yX13_tear cX13_tear 2 (some .int)) ({ frames := 0, cells := 0, slots := 0, locals := 0 } : Room) (va_Pc [.ref (L 0)] (pI D (cfM D L x) A)) (nQ D (cfM D L (yr x 0 0 0)) A (some (.int (if x.2.1 0 0 = 0 then 0 else 1)))) 0 0 A := by
  refine met_I (by decide) rfl (Nat.le_of_ble_eq_true rfl) ?_
  intro p e s m below meth c ls hx hb hr hml hown hts hlocks hl hI hK
  have F : CallFix p m c cX13_tear 2 s _ lw_all RX13 := ⟨hx, hb, hml, hown, hts⟩
  have hl : lv_has ls 2 [(0, .ref (L 0))] := hl
  have hS : va_S A s.heap s.heap [] := va_S.rf
  refine lv_aload_n hx hb dX13_tear_0 rfl (lv_at hl 0 rfl) ?_
  refine r_get (C := RX13) (T := TX13) (N := 18) hx hb hts in_X13 hown hK hI (mf_main) rfl 4 (by decide) (hts _ q1168) (fun _ h => h) rfl dX13_tear_1 ?_
  refine lv_if_eq (tgt := 11) hx hb dX13_tear_4 (by decide) (fun c_4 => ?_) (fun c_4 => ?_)
  · skip
    refine lv_iconst (v := 0) hx hb dX13_tear_11 (by decide) ?_
    refine lv_istore_n (lv' := [(1, .int 0), (0, .ref (L 0))]) hx hb dX13_tear_12 rfl hl (by decide) rfl (fun ls hl => ?_)
    refine lv_aload_n hx hb dX13_tear_13 rfl (lv_at hl 1 rfl) ?_
    refine lv_iconst (v := 0) hx hb dX13_tear_14 (by decide) ?_
    obtain ⟨x1, ex1⟩ : ∃ z, z = yr x 0 0 0 := ⟨_, rfl⟩
    refine r_put (C := RX13) (T := TX13) (N := 18) (cf' := cfM D L x1) hx hb hts in_X13 tyX13 tyX13_ok nmX13 hown hK hI hS (mf_main) rfl 4 (by decide) (hts _ q1168) (fun _ h => h) rfl (ty := .boolean) (by decide +kernel) (by decide) rfl (Nat.le_of_ble_eq_true rfl) (by rw [ex1]; exact ms_main rfl (fun _ => rfl) (fun _ h => u2_ne h)) dX13_tear_15 (fun H1 locs1 hI hS => ?_)
    refine lv_iload_n hx hb dX13_tear_18 rfl (lv_at hl 0 rfl) ?_
    exact W.iret hx hb hr (fun t ht _ => ⟨rI (by simp only [if_pos c_4]), by rw [ht]; exact hw_eq hI (congrArg (cfM D L) (by rw [ex1])), hS.F ht⟩) hS.2.2 dX13_tear_19
  · skip
    refine lv_iconst (v := 1) hx hb dX13_tear_7 (by decide) ?_
    refine lv_goto (tgt := 12) hx hb dX13_tear_8 (by decide) ?_
    refine lv_istore_n (lv' := [(1, .int 1), (0, .ref (L 0))]) hx hb dX13_tear_12 rfl hl (by decide) rfl (fun ls hl => ?_)
    refine lv_aload_n hx hb dX13_tear_13 rfl (lv_at hl 1 rfl) ?_
    refine lv_iconst (v := 0) hx hb dX13_tear_14 (by decide) ?_
    obtain ⟨x2, ex2⟩ : ∃ z, z = yr x 0 0 0 := ⟨_, rfl⟩
    refine r_put (C := RX13) (T := TX13) (N := 18) (cf' := cfM D L x2) hx hb hts in_X13 tyX13 tyX13_ok nmX13 hown hK hI hS (mf_main) rfl 4 (by decide) (hts _ q1168) (fun _ h => h) rfl (ty := .boolean) (by decide +kernel) (by decide) rfl (Nat.le_of_ble_eq_true rfl) (by rw [ex2]; exact ms_main rfl (fun _ => rfl) (fun _ h => u2_ne h)) dX13_tear_15 (fun H1 locs1 hI hS => ?_)
    refine lv_iload_n hx hb dX13_tear_18 rfl (lv_at hl 0 rfl) ?_
    exact W.iret hx hb hr (fun t ht _ => ⟨rI (by simp only [if_neg c_4]), by rw [ht]; exact hw_eq hI (congrArg (cfM D L) (by rw [ex2])), hS.F ht⟩) hS.2.2 dX13_tear_19
theorem k_X13_image {l : Launch} {D : va_G} {L : Nat → Nat} {A : Nat → Prop} (x : mst) : Met l yX13_image (ws_ yX13_image cX13_image 1 (some .int)) ({ frames := 1, cells := 0, slots := 0, locals := 22 } : Room) (va_Pc [.ref (L 0)] (pI D (cfM D L x) A)) (nQ D (cfM D L (yr (ys x 3 (x.1 0)) 0 0 1)) A (some (.int 1))) 0 0 A := by
  refine met_I (by decide) rfl (Nat.le_of_ble_eq_true rfl) ?_
  intro p e s m below meth c ls hx hb hr hml hown hts hlocks hl hI hK
  have F : CallFix p m c cX13_image 1 s _ lw_all RX13 := ⟨hx, hb, hml, hown, hts⟩
  have hl : lv_has ls 1 [(0, .ref (L 0))] := hl
  have hS : va_S A s.heap s.heap [] := va_S.rf
  refine lv_aload_n hx hb dX13_image_0 rfl (lv_at hl 0 rfl) ?_
  refine r_get (C := RX13) (T := TX13) (N := 18) hx hb hts in_X13 hown hK hI (mf_main) rfl 0 (by decide) (hts _ q1164) (fun _ h => h) rfl dX13_image_1 ?_
  refine lv_aload_n hx hb dX13_image_4 rfl (lv_at hl 0 rfl) ?_
  refine r_get (C := RX13) (T := TX13) (N := 18) hx hb hts in_X13 hown hK hI (mf_main) rfl 3 (by decide) (hts _ q1167) (fun _ h => h) rfl dX13_image_5 ?_
  refine c_m (k_SI (As := [.ref (L 1), .ref (L 4)]) (rest := []) F (k_X13_copies (cf' := cfM D L (ys x 3 (x.1 0))) mf_d mf_kept (by decide) (ms_wn (w := 3) (by decide) (by decide) rfl)) (va_cwS 2 hts (lw_S q1391 q1392 q107 q1393) rfl rfl rfl (by decide +kernel) ⟨Nat.le_of_ble_eq_true rfl, Nat.le_of_ble_eq_true rfl⟩) hI hK rfl hl.1 rfl (Nat.le_of_ble_eq_true rfl) dX13_image_8 ⟨Nat.le_of_ble_eq_true rfl, Nat.le_of_ble_eq_true rfl⟩) hS (fun H1 locs1 hI hS => ?_)
  obtain ⟨x1, ex1⟩ : ∃ z, z = ys x 3 (x.1 0) := ⟨_, rfl⟩
  rw [← ex1] at hI
  refine lv_aload_n hx hb dX13_image_11 rfl (lv_at hl 0 rfl) ?_
  refine lv_iconst (v := 1) hx hb dX13_image_12 (by decide) ?_
  obtain ⟨x2, ex2⟩ : ∃ z, z = yr x1 0 0 1 := ⟨_, rfl⟩
  refine r_put (C := RX13) (T := TX13) (N := 18) (cf' := cfM D L x2) hx hb hts in_X13 tyX13 tyX13_ok nmX13 hown hK hI hS (mf_main) rfl 4 (by decide) (hts _ q1168) (fun _ h => h) rfl (ty := .boolean) (by decide +kernel) (by decide) rfl (Nat.le_of_ble_eq_true rfl) (by rw [ex2]; exact ms_main rfl (fun _ => rfl) (fun _ h => u2_ne h)) dX13_image_13 (fun H1 locs1 hI hS => ?_)
  refine lv_iconst (v := 1) hx hb dX13_image_16 (by decide) ?_
  exact W.iret hx hb hr (fun t ht _ => ⟨rI (rfl), by rw [ht]; exact hw_eq hI (congrArg (cfM D L) (by rw [ex2, ex1])), hS.F ht⟩) hS.2.2 dX13_image_17
theorem k_X13_undo {l : Launch} {D : va_G} {L : Nat → Nat} {A : Nat → Prop} (x : mst) : Met l yX13_undo (ws_ yX13_undo cX13_undo 1 (some .int)) ({ frames := 1, cells := 0, slots := 0, locals := 22 } : Room) (va_Pc [.ref (L 0)] (pI D (cfM D L x) A)) (nQ D (cfM D L (if x.2.1 0 0 = 0 then fndM x 3 else ys x 0 (u2 (x.1 3) 1 1 (x.1 0 1 1)))) A (some (.int (if x.2.1 0 0 = 0 then -1000001 - nI 3 else x.1 3 1 2)))) 0 0 A := by
  refine met_I (by decide) rfl (Nat.le_of_ble_eq_true rfl) ?_
  intro p e s m below meth c ls hx hb hr hml hown hts hlocks hl hI hK
  have F : CallFix p m c cX13_undo 1 s _ lw_all RX13 := ⟨hx, hb, hml, hown, hts⟩
  have hl : lv_has ls 1 [(0, .ref (L 0))] := hl
  have hS : va_S A s.heap s.heap [] := va_S.rf
  refine lv_aload_n hx hb dX13_undo_0 rfl (lv_at hl 0 rfl) ?_
  refine r_get (C := RX13) (T := TX13) (N := 18) hx hb hts in_X13 hown hK hI (mf_main) rfl 4 (by decide) (hts _ q1168) (fun _ h => h) rfl dX13_undo_1 ?_
  refine lv_if_ne (tgt := 13) hx hb dX13_undo_4 (by decide) (fun c_4 => ?_) (fun c_4 => ?_)
  · skip
    refine lv_aload_n hx hb dX13_undo_13 rfl (lv_at hl 0 rfl) ?_
    refine r_get (C := RX13) (T := TX13) (N := 18) hx hb hts in_X13 hown hK hI (mf_main) rfl 3 (by decide) (hts _ q1167) (fun _ h => h) rfl dX13_undo_14 ?_
    refine lv_aload_n hx hb dX13_undo_17 rfl (lv_at hl 0 rfl) ?_
    refine r_get (C := RX13) (T := TX13) (N := 18) hx hb hts in_X13 hown hK hI (mf_main) rfl 0 (by decide) (hts _ q1164) (fun _ h => h) rfl dX13_undo_18 ?_
    refine c_m (k_SI (As := [.ref (L 4), .ref (L 1)]) (rest := []) F (k_X13_copies (cf' := cfM D L (ys x 0 (u2 (x.1 3) 1 1 (x.1 0 1 1)))) mf_kept mf_d (by decide) (ms_w (w := 0) (by decide) (mu_gone _ _) (by rw [u2_at, if_pos ⟨rfl, rfl⟩]))) (va_cwS 2 hts (lw_S q1391 q1392 q107 q1393) rfl rfl rfl (by decide +kernel) ⟨Nat.le_of_ble_eq_true rfl, Nat.le_of_ble_eq_true rfl⟩) hI hK rfl hl.1 rfl (Nat.le_of_ble_eq_true rfl) dX13_undo_21 ⟨Nat.le_of_ble_eq_true rfl, Nat.le_of_ble_eq_true rfl⟩) hS (fun H1 locs1 hI hS => ?_)
    obtain ⟨x1, ex1⟩ : ∃ z, z = ys x 0 (u2 (x.1 3) 1 1 (x.1 0 1 1)) := ⟨_, rfl⟩
    rw [← ex1] at hI
    refine lv_aload_n hx hb dX13_undo_24 rfl (lv_at hl 0 rfl) ?_
    refine r_get (C := RX13) (T := TX13) (N := 18) hx hb hts in_X13 hown hK hI (mf_main) rfl 0 (by decide) (hts _ q1164) (fun _ h => h) rfl dX13_undo_25 ?_
    refine lv_iconst (v := 1) hx hb dX13_undo_28 (by decide) ?_
    refine n_ialdv (k := 1) (v := (x1.1 0 1 2)) hx hb hK hI (mf_d) (rfl) (by decide) (by decide) (rfl) dX13_undo_29 ?_
    exact W.iret hx hb hr (fun t ht _ => ⟨rI (by first | (simp only [if_neg c_4]; done) | (rw [ex1, ys_at, u2_at, if_neg (by decide)]; simp only [if_neg c_4]; done)), by rw [ht]; exact hw_eq hI (congrArg (cfM D L) (by rw [ex1]; simp only [if_neg c_4])), hS.F ht⟩) hS.2.2 dX13_undo_30
  · skip
    refine lv_aload_n hx hb dX13_undo_7 rfl (lv_at hl 0 rfl) ?_
    refine lv_iconst (v := 3) hx hb dX13_undo_8 (by decide) ?_
    refine c_m (k_V (As := [.int 3]) (rest := []) F (k_X13_finds x 3 (by decide)) (cwV 1 hts (lw_V q1238 q1240 qs47 q107 q1241) rfl rfl rfl (by decide +kernel) ⟨Nat.le_of_ble_eq_true rfl, Nat.le_of_ble_eq_true rfl⟩) hI hK (hw.recv hI hK (mf_main) rfl) rfl hl.1 rfl (Nat.le_of_ble_eq_true rfl) dX13_undo_9 ⟨Nat.le_of_ble_eq_true rfl, Nat.le_of_ble_eq_true rfl⟩) hS (fun H1 locs1 hI hS => ?_)
    obtain ⟨x2, ex2⟩ : ∃ z, z = (fndM x 3) := ⟨_, rfl⟩
    rw [← ex2] at hI
    exact W.iret hx hb hr (fun t ht _ => ⟨rI (by first | (simp only [if_pos c_4]; done) | (rw [ex2, ys_at, u2_at, if_neg (by decide)]; simp only [if_pos c_4]; done)), by rw [ht]; exact hw_eq hI (congrArg (cfM D L) (by rw [ex2]; simp only [if_pos c_4])), hS.F ht⟩) hS.2.2 dX13_undo_12
