/-! LeftGlovesModel: the words -/
def hlI (v lo hi : Int32) : Int32 := if v < lo then lo else if hi < v then hi else v
def moI (w : Int32) : Int32 := if w = 0 then 6 else if w = 1 then 5 else if w = 2 then 9 else if w = 3 then 65535 else if w = 5 then 65535 else 9999
def abI (w : Int32) : Int32 := if w = 3 then 2 else if w = 4 then 3 else if w = 6 then 1 else 0
def isSayM (v : Int32) : Int32 := if inI v 0 5159 = 0 then 0 else if v - v / 1000 * 1000 < 160 then 1 else 0
def fndM (x : mst) (k : Nat) : mst := yr x 1 k (x.2.1 1 k + 1)
def haoI (f : wd) (k : Nat) : Int32 := if whI f (f (2 + 1) k) &&& ((1 : Int32) <<< (nI k &&& 31) ^^^ (-1)) = 0 then 0 else 1
theorem in_nat {k a b : Nat} (hk : k < 2 ^ 31) (ha : a < 2 ^ 31) (hb : b < 2 ^ 31) : inI (nI k) (nI a) (nI b) = if k < a then 0 else if b < k then 0 else 1 := by
  unfold inI
  simp only [nI_ltI hk ha, nI_ltI hb hk]
theorem isSay_m (v : Int32) : isSayI v = isSayM v := by
  unfold isSayI isSayM
  by_cases h : v < 0
  · rw [if_pos h]
    simp [inI, h]
  · rw [if_neg h]
    obtain ⟨k, hk, rfl⟩ := nI_of h
    have e1 : rmI (nI k) = nI (k / 1000) := by rw [rmI, show (1000 : Int32) = nI 1000 from rfl, pk_div hk (by decide) (by decide)]
    have e3 : nI k - nI k / 1000 * 1000 = nI (k % 1000) := by rw [show (1000 : Int32) = nI 1000 from rfl, pk_rem hk (by decide) (by decide)]
    have e2 : tpI (nI k) = nI (k % 1000 / 10) := by rw [tpI, e3, show (10 : Int32) = nI 10 from rfl, pk_div (by omega) (by decide) (by decide)]
    rw [e1, e2, e3, show (0 : Int32) = nI 0 from rfl, show (5 : Int32) = nI 5 from rfl, show (15 : Int32) = nI 15 from rfl, show (5159 : Int32) = nI 5159 from rfl, show (160 : Int32) = nI 160 from rfl, in_nat (by omega) (by decide) (by decide), in_nat (by omega) (by decide) (by decide), in_nat (by omega) (by decide) (by decide)]
    simp only [nI_ltI (show k % 1000 < 2 ^ 31 by omega) (show 160 < 2 ^ 31 by decide), Nat.not_lt_zero, if_false]
    have hz : (1 : Int32) ≠ nI 0 := by decide
    have h00 : (0 : Int32) = nI 0 := rfl
    by_cases h1 : 5 < k / 1000
    · rw [if_pos h1, if_pos h00, if_pos (show 5159 < k by omega), if_pos h00]
    · rw [if_neg h1, if_neg hz]
      by_cases h2 : 15 < k % 1000 / 10
      · rw [if_pos h2, if_pos h00, if_neg (show ¬ k % 1000 < 160 by omega)]
        by_cases h3 : 5159 < k
        · rw [if_pos h3, if_pos h00]
        · rw [if_neg h3, if_neg hz]
      · rw [if_neg h2, if_neg hz, if_neg (show ¬ 5159 < k by omega), if_neg hz, if_pos (show k % 1000 < 160 by omega)]
theorem nd_6 (f : wd) (k : Nat) : ndI f 6 k = if haoI f k = 0 then ks_nd f k else 1 := by
  show (if whI f (f (2 + 1) k) &&& ((1 : Int32) <<< (nI k &&& 31) ^^^ (-1)) = 0 then ks_nd f k else 1) = _
  unfold haoI
  by_cases h : whI f (f (2 + 1) k) &&& ((1 : Int32) <<< (nI k &&& 31) ^^^ (-1)) = 0
  · rw [if_pos h, if_pos h, if_pos rfl]
  · rw [if_neg h, if_neg h, if_neg (by decide)]
theorem kn_v {f : wd} {k n : Nat} {v : Int32} (h : f (2 + 0) k = v) (hv : v = nI n ∧ n < 7) : kN f k = n := by
  unfold kN; rw [h, hv.1, nI_clamp (by omega)]
theorem kn_d {f : wd} {k κ : Nat} (hκ : κ < 7) (ek : f (2 + 0) k = nI κ) (h1 : ¬ f (2 + 0) k = 1) (h2 : ¬ f (2 + 0) k = 2) (h3 : ¬ f (2 + 0) k = 3) (h4 : ¬ f (2 + 0) k = 4) (h5 : ¬ f (2 + 0) k = 5) (h6 : ¬ f (2 + 0) k = 6) : kN f k = 0 := by
  unfold kN
  rw [ek] at h1 h2 h3 h4 h5 h6 ⊢
  match κ, hκ with
  | 0, _ => rfl
  | 1, _ => exact absurd rfl h1
  | 2, _ => exact absurd rfl h2
  | 3, _ => exact absurd rfl h3
  | 4, _ => exact absurd rfl h4
  | 5, _ => exact absurd rfl h5
  | 6, _ => exact absurd rfl h6
theorem hl_kd {v : Int32} (h : isN v 10) : hlI (10 - v - 2) 0 10 = mxI 0 (10 - v - 2) := by
  obtain ⟨j, hj, rfl⟩ := h
  have : ∀ j, j < 10 → hlI (10 - nI j - 2) 0 10 = mxI 0 (10 - nI j - 2) := by decide +kernel
  exact this j hj
theorem hl_ly {v : Int32} (h : isN v 10) : hlI (10 - v - 1) 0 10 = mxI 0 (10 - v + 3 - 4) := by
  obtain ⟨j, hj, rfl⟩ := h
  have : ∀ j, j < 10 → hlI (10 - nI j - 1) 0 10 = mxI 0 (10 - nI j + 3 - 4) := by decide +kernel
  exact this j hj
theorem isN_hu {f : wd} {κ k : Nat} (hκ : κ < 7) : isN (huI f κ k) 3 := by
  match κ, hκ with
  | 0, _ => exact ⟨0, by decide, rfl⟩
  | 1, _ => exact ⟨1, by decide, rfl⟩
  | 2, _ => exact ⟨0, by decide, rfl⟩
  | 3, _ => exact ⟨1, by decide, rfl⟩
  | 4, _ => exact ⟨0, by decide, rfl⟩
  | 5, _ =>
    show isN (if f (2 + 4) k < 100 then 0 else 1) 3
    split
    · exact ⟨0, by decide, rfl⟩
    · exact ⟨1, by decide, rfl⟩
  | 6, _ => exact ⟨2, by decide, rfl⟩
theorem isN_hi {f : wd} (hO : wOk f) (room : Int32) : isN (hiI f room) 17 := by
  have h : ∀ n, n ≤ 8 → isN (itr (hiS f (whI f room)) 0 n) (2 * n + 1) := by
    intro n
    induction n with
    | zero => intro _; exact ⟨0, by decide, rfl⟩
    | succ n ih =>
      intro hn
      obtain ⟨a, ha, ea⟩ := ih (by omega)
      rw [itr_s, hiS, ea]
      by_cases h1 : hsI (whI f room) (nI n) = 0
      · rw [if_pos h1]; exact ⟨a, by omega, by rw [show (0 : Int32) = nI 0 from rfl, nI_add]; rfl⟩
      · rw [if_neg h1]
        obtain ⟨b, hb, eb⟩ := isN_hu (f := f) (k := n) (hO.k (k := n) (by omega)).2
        rw [eb, nI_add]; exact ⟨a + b, by omega, rfl⟩
  have h8 := hO.n.2
  exact isN_mono (h (wN f) h8) (by omega)
theorem sub_toInt {a b : Nat} (ha : a < 1000000) (hb : b < 1000000) : (nI a - nI b).toInt = (a : Int) - b := pk_sub_toInt (by omega) (by omega)
theorem hl_lod {f : wd} (hO : wOk f) {sy : Int32} (hsy : sOk sy) : hlI (sy - sy / 10 * 10 - hiI f (sy / 1000)) 0 9 = lodI f sy := by
  show hlI (ldI sy - hiI f (rmI sy)) 0 9 = mxI 0 (ldI sy - hiI f (rmI sy))
  obtain ⟨a, ha, ea⟩ := hsy.tp.2.2
  obtain ⟨b, hb, eb⟩ := isN_hi hO (rmI sy)
  rw [ea, eb]
  have h := sub_toInt (a := a) (b := b) (by omega) (by omega)
  generalize nI a - nI b = v at h
  unfold hlI mxI
  by_cases h1 : v < 0
  · rw [if_pos h1, if_neg (fun z => Int32.lt_irrefl (Int32.lt_trans h1 z))]
  · rw [if_neg h1, if_neg (show ¬ 9 < v by rw [Int32.lt_iff_toInt_lt, h]; show ¬ (9 : Int) < _; omega)]
    by_cases h2 : (0 : Int32) < v
    · rw [if_pos h2]
    · rw [if_neg h2]
      have e : v.toInt = 0 := by
        rw [Int32.lt_iff_toInt_lt] at h1 h2
        have z : (0 : Int32).toInt = 0 := rfl
        omega
      exact Int32.toInt_inj.mp (by rw [e]; rfl)
theorem hl_mn {v : Int32} (h : isN v 10000) : hlI (v + 1) 0 9999 = mnI 9999 (v + 1) := by
  obtain ⟨a, ha, rfl⟩ := h
  rw [nI_1]
  unfold hlI mnI
  rw [if_neg (nI_pos (by omega)), show (9999 : Int32) = nI 9999 from rfl]
  by_cases h1 : 9999 < a + 1
  · rw [if_pos ((nI_ltI (by decide) (by omega)).mpr h1), if_neg (fun z => absurd ((nI_ltI (by omega) (by decide)).mp z) (by omega))]
  · rw [if_neg (fun z => h1 ((nI_ltI (by decide) (by omega)).mp z))]
    by_cases h2 : a + 1 < 9999
    · rw [if_pos ((nI_ltI (by omega) (by decide)).mpr h2)]
    · rw [if_neg (fun z => h2 ((nI_ltI (by omega) (by decide)).mp z)), show a + 1 = 9999 by omega]
theorem isN_lor {v t : Int32} {tn : Nat} (h : isN v 65536) (ht : tn < 16) (et : t = nI tn) : isN (v ||| (1 <<< (t &&& 31))) 65536 := isN_or (k := 16) h (isN_b1 ⟨tn, ht, et⟩)
theorem ln_firstT {kn kp t : Int32} {tn : Nat} (et : t = nI tn) (h1 : isN kn 65536) (ht : tn < 16) (h3 : ¬ kp < 3) (hlt : kp < bcI (kn ||| (1 <<< (t &&& 31)))) :
    ∃ j, j < 16 ∧ (∀ i, i < j → hsI (kn ||| (1 <<< (t &&& 31))) (nI i) = 0 ∨ i = tn) ∧ ¬ hsI (kn ||| (1 <<< (t &&& 31))) (nI j) = 0 ∧ j ≠ tn ∧ lnI kn t kp = (kn ||| (1 <<< (t &&& 31))) &&& ((1 <<< (nI j &&& 31)) ^^^ (-1)) := by
  subst et; exact ln_first h1 ht h3 hlt
theorem kp_3 {κ : Nat} (h : κ < 7) : ¬ kpI κ < 3 := by
  match κ, h with
  | 0, _ => decide
  | 1, _ => decide
  | 2, _ => decide
  | 3, _ => decide
  | 4, _ => decide
  | 5, _ => decide
  | 6, _ => decide
theorem wi_lt {v : Int32} {n : Nat} (hn : n < 2 ^ 31) (h : v = -1 ∨ ∃ j, j < n ∧ v = nI j) (h0 : v < 0) : v = -1 := by
  rcases h with h | ⟨j, hj, rfl⟩
  · exact h
  · exact absurd h0 (nI_pos (by omega))
theorem k_X13_in {l : Launch} (v lo hi : Int32) (va vb vc : Int64) (ha : va = v.toInt64) (hb2 : vb = lo.toInt64) (hc : vc = hi.toInt64) : Met l yX13_in (ws_ yX13_in cX13_in 6 (some .boolean)) ({ frames := 0, cells := 0, slots := 0, locals := 0 } : Room) (va_Pc [.long va, .long vb, .long vc] pT) (rQ (.int (inI v lo hi))) 0 0 nof := by
  refine met_T (by decide) rfl (Nat.le_of_ble_eq_true rfl) ?_
  intro p e s m below meth c ls hx hb hr hml hown hts hlocks hl
  have F : CallFix p m c cX13_in 6 s _ lw_all RX13 := ⟨hx, hb, hml, hown, hts⟩
  have hl : lv_has ls 6 [(0, .long va), (2, .long vb), (4, .long vc)] := hl
  refine lv_lload_n hx hb dX13_in_0 rfl (lv_at hl 0 rfl) ?_
  refine lv_lload_n hx hb dX13_in_1 rfl (lv_at hl 1 rfl) ?_
  refine W.lcmp hx hb dX13_in_2 ?_
  refine lv_if_lt (tgt := 17) hx hb dX13_in_3 (by decide) (fun c_3 => ?_) (fun c_3 => ?_)
  · skip
    refine lv_iconst (v := 0) hx hb dX13_in_17 (by decide) ?_
    exact W.zret hx hb hr (rfl) (fun t ht _ => ⟨rI (by subst ha hb2 hc; simp only [lg_cmp_lt, lg_cmp_gt, Int32.toInt64_lt] at c_3; simp [inI, c_3]), ht⟩) (fun q h => by cases h) dX13_in_18
  · skip
    refine lv_lload_n hx hb dX13_in_6 rfl (lv_at hl 0 rfl) ?_
    refine lv_lload hx hb dX13_in_7 (lv_at hl 2 rfl) ?_
    refine W.lcmp hx hb dX13_in_9 ?_
    refine lv_if_gt (tgt := 17) hx hb dX13_in_10 (by decide) (fun c_10 => ?_) (fun c_10 => ?_)
    · skip
      refine lv_iconst (v := 0) hx hb dX13_in_17 (by decide) ?_
      exact W.zret hx hb hr (rfl) (fun t ht _ => ⟨rI (by subst ha hb2 hc; simp only [lg_cmp_lt, lg_cmp_gt, Int32.toInt64_lt] at c_3 c_10; simp [inI, c_3, c_10]), ht⟩) (fun q h => by cases h) dX13_in_18
    · skip
      refine lv_iconst (v := 1) hx hb dX13_in_13 (by decide) ?_
      refine lv_goto (tgt := 18) hx hb dX13_in_14 (by decide) ?_
      exact W.zret hx hb hr (rfl) (fun t ht _ => ⟨rI (by subst ha hb2 hc; simp only [lg_cmp_lt, lg_cmp_gt, Int32.toInt64_lt] at c_3 c_10; simp [inI, c_3, c_10]), ht⟩) (fun q h => by cases h) dX13_in_18
theorem k_X13_held {l : Launch} (v lo hi : Int32) : Met l yX13_held (ws_ yX13_held cX13_held 3 (some .int)) ({ frames := 0, cells := 0, slots := 0, locals := 0 } : Room) (va_Pc [.int v, .int lo, .int hi] pT) (rQ (.int (hlI v lo hi))) 0 0 nof := by
  refine met_T (by decide) rfl (Nat.le_of_ble_eq_true rfl) ?_
  intro p e s m below meth c ls hx hb hr hml hown hts hlocks hl
  have F : CallFix p m c cX13_held 3 s _ lw_all RX13 := ⟨hx, hb, hml, hown, hts⟩
  have hl : lv_has ls 3 [(0, .int v), (1, .int lo), (2, .int hi)] := hl
  refine lv_iload_n hx hb dX13_held_0 rfl (lv_at hl 0 rfl) ?_
  refine lv_iload_n hx hb dX13_held_1 rfl (lv_at hl 1 rfl) ?_
  refine lv_icmp_ge (tgt := 9) hx hb dX13_held_2 (by decide) (fun c_2 => ?_) (fun c_2 => ?_)
  · skip
    have c_2 := Int32.not_lt.mpr c_2
    refine lv_iload_n hx hb dX13_held_9 rfl (lv_at hl 0 rfl) ?_
    refine lv_iload_n hx hb dX13_held_10 rfl (lv_at hl 2 rfl) ?_
    refine lv_icmp_le (tgt := 18) hx hb dX13_held_11 (by decide) (fun c_11 => ?_) (fun c_11 => ?_)
    · skip
      have c_11 := Int32.not_lt.mpr c_11
      refine lv_iload_n hx hb dX13_held_18 rfl (lv_at hl 0 rfl) ?_
      exact W.iret hx hb hr (fun t ht _ => ⟨rI (by simp [hlI, c_2, c_11]), ht⟩) (fun q h => by cases h) dX13_held_19
    · skip
      have c_11 := Int32.not_le.mp c_11
      refine lv_iload_n hx hb dX13_held_14 rfl (lv_at hl 2 rfl) ?_
      refine lv_goto (tgt := 19) hx hb dX13_held_15 (by decide) ?_
      exact W.iret hx hb hr (fun t ht _ => ⟨rI (by simp [hlI, c_2, c_11]), ht⟩) (fun q h => by cases h) dX13_held_19
  · skip
    have c_2 := Int32.not_le.mp c_2
    refine lv_iload_n hx hb dX13_held_5 rfl (lv_at hl 1 rfl) ?_
    refine lv_goto (tgt := 19) hx hb dX13_held_6 (by decide) ?_
    exact W.iret hx hb hr (fun t ht _ => ⟨rI (by simp [hlI, c_2]), ht⟩) (fun q h => by cases h) dX13_held_19
theorem k_X13_isTopic {l : Launch} (v : Int32) : Met l yX13_isTopic (ws_ yX13_isTopic cX13_isTopic 1 (some .boolean)) ({ frames := 1, cells := 0, slots := 0, locals := 25 } : Room) (va_Pc [.int v] pT) (rQ (.int (inI v 0 15))) 0 0 nof := by
  refine met_T (by decide) rfl (Nat.le_of_ble_eq_true rfl) ?_
  intro p e s m below meth c ls hx hb hr hml hown hts hlocks hl
  have F : CallFix p m c cX13_isTopic 1 s _ lw_all RX13 := ⟨hx, hb, hml, hown, hts⟩
  have hl : lv_has ls 1 [(0, .int v)] := hl
  refine lv_iload_n hx hb dX13_isTopic_0 rfl (lv_at hl 0 rfl) ?_
  refine lv_i2l (v := (v : Int32).toInt64) hx hb dX13_isTopic_1 rfl ?_
  refine lv_lconst (v := 0) hx hb dX13_isTopic_2 (by decide) ?_
  refine lv_ldc2 (v := 15) hx hb hown (hts _ q1336) dX13_isTopic_3 ?_
  refine c_r (k_S (As := [.long ((v : Int32).toInt64), .long 0, .long 15]) (rest := []) F (k_X13_in v 0 15 ((v : Int32).toInt64 : Int64) (0 : Int64) (15 : Int64) rfl (by decide) (by decide)) (va_cwS 3 hts (lw_S q1227 q1228 q107 q1229) rfl rfl rfl (by decide +kernel) ⟨Nat.le_of_ble_eq_true rfl, Nat.le_of_ble_eq_true rfl⟩) rfl hl.1 rfl (Nat.le_of_ble_eq_true rfl) dX13_isTopic_6 ⟨Nat.le_of_ble_eq_true rfl, Nat.le_of_ble_eq_true rfl⟩) ?_
  exact W.zret hx hb hr (t_bl2 (inI_01 _ _ _)) (fun t ht _ => ⟨rI (rfl), ht⟩) (fun q h => by cases h) dX13_isTopic_9
theorem k_X13_areTopics {l : Launch} (v : Int32) : Met l yX13_areTopics (ws_ yX13_areTopics cX13_areTopics 1 (some .boolean)) ({ frames := 1, cells := 0, slots := 0, locals := 25 } : Room) (va_Pc [.int v] pT) (rQ (.int (inI v 0 65535))) 0 0 nof := by
  refine met_T (by decide) rfl (Nat.le_of_ble_eq_true rfl) ?_
  intro p e s m below meth c ls hx hb hr hml hown hts hlocks hl
  have F : CallFix p m c cX13_areTopics 1 s _ lw_all RX13 := ⟨hx, hb, hml, hown, hts⟩
  have hl : lv_has ls 1 [(0, .int v)] := hl
  refine lv_iload_n hx hb dX13_areTopics_0 rfl (lv_at hl 0 rfl) ?_
  refine lv_i2l (v := (v : Int32).toInt64) hx hb dX13_areTopics_1 rfl ?_
  refine lv_lconst (v := 0) hx hb dX13_areTopics_2 (by decide) ?_
  refine lv_ldc2 (v := 65535) hx hb hown (hts _ q1414) dX13_areTopics_3 ?_
  refine c_r (k_S (As := [.long ((v : Int32).toInt64), .long 0, .long 65535]) (rest := []) F (k_X13_in v 0 65535 ((v : Int32).toInt64 : Int64) (0 : Int64) (65535 : Int64) rfl (by decide) (by decide)) (va_cwS 3 hts (lw_S q1227 q1228 q107 q1229) rfl rfl rfl (by decide +kernel) ⟨Nat.le_of_ble_eq_true rfl, Nat.le_of_ble_eq_true rfl⟩) rfl hl.1 rfl (Nat.le_of_ble_eq_true rfl) dX13_areTopics_6 ⟨Nat.le_of_ble_eq_true rfl, Nat.le_of_ble_eq_true rfl⟩) ?_
  exact W.zret hx hb hr (t_bl2 (inI_01 _ _ _)) (fun t ht _ => ⟨rI (rfl), ht⟩) (fun q h => by cases h) dX13_areTopics_9
theorem k_X13_isPlace {l : Launch} (v : Int32) : Met l yX13_isPlace (ws_ yX13_isPlace cX13_isPlace 1 (some .boolean)) ({ frames := 1, cells := 0, slots := 0, locals := 25 } : Room) (va_Pc [.int v] pT) (rQ (.int (inI v 0 5))) 0 0 nof := by
  refine met_T (by decide) rfl (Nat.le_of_ble_eq_true rfl) ?_
  intro p e s m below meth c ls hx hb hr hml hown hts hlocks hl
  have F : CallFix p m c cX13_isPlace 1 s _ lw_all RX13 := ⟨hx, hb, hml, hown, hts⟩
  have hl : lv_has ls 1 [(0, .int v)] := hl
  refine lv_iload_n hx hb dX13_isPlace_0 rfl (lv_at hl 0 rfl) ?_
  refine lv_i2l (v := (v : Int32).toInt64) hx hb dX13_isPlace_1 rfl ?_
  refine lv_lconst (v := 0) hx hb dX13_isPlace_2 (by decide) ?_
  refine lv_ldc2 (v := 5) hx hb hown (hts _ q1226) dX13_isPlace_3 ?_
  refine c_r (k_S (As := [.long ((v : Int32).toInt64), .long 0, .long 5]) (rest := []) F (k_X13_in v 0 5 ((v : Int32).toInt64 : Int64) (0 : Int64) (5 : Int64) rfl (by decide) (by decide)) (va_cwS 3 hts (lw_S q1227 q1228 q107 q1229) rfl rfl rfl (by decide +kernel) ⟨Nat.le_of_ble_eq_true rfl, Nat.le_of_ble_eq_true rfl⟩) rfl hl.1 rfl (Nat.le_of_ble_eq_true rfl) dX13_isPlace_6 ⟨Nat.le_of_ble_eq_true rfl, Nat.le_of_ble_eq_true rfl⟩) ?_
  exact W.zret hx hb hr (t_bl2 (inI_01 _ _ _)) (fun t ht _ => ⟨rI (rfl), ht⟩) (fun q h => by cases h) dX13_isPlace_9
theorem k_X13_isSheet {l : Launch} (v : Int32) : Met l yX13_isSheet (ws_ yX13_isSheet cX13_isSheet 1 (some .boolean)) ({ frames := 1, cells := 0, slots := 0, locals := 25 } : Room) (va_Pc [.int v] pT) (rQ (.int (inI v 0 3))) 0 0 nof := by
  refine met_T (by decide) rfl (Nat.le_of_ble_eq_true rfl) ?_
  intro p e s m below meth c ls hx hb hr hml hown hts hlocks hl
  have F : CallFix p m c cX13_isSheet 1 s _ lw_all RX13 := ⟨hx, hb, hml, hown, hts⟩
  have hl : lv_has ls 1 [(0, .int v)] := hl
  refine lv_iload_n hx hb dX13_isSheet_0 rfl (lv_at hl 0 rfl) ?_
  refine lv_i2l (v := (v : Int32).toInt64) hx hb dX13_isSheet_1 rfl ?_
  refine lv_lconst (v := 0) hx hb dX13_isSheet_2 (by decide) ?_
  refine lv_ldc2 (v := 3) hx hb hown (hts _ q1251) dX13_isSheet_3 ?_
  refine c_r (k_S (As := [.long ((v : Int32).toInt64), .long 0, .long 3]) (rest := []) F (k_X13_in v 0 3 ((v : Int32).toInt64 : Int64) (0 : Int64) (3 : Int64) rfl (by decide) (by decide)) (va_cwS 3 hts (lw_S q1227 q1228 q107 q1229) rfl rfl rfl (by decide +kernel) ⟨Nat.le_of_ble_eq_true rfl, Nat.le_of_ble_eq_true rfl⟩) rfl hl.1 rfl (Nat.le_of_ble_eq_true rfl) dX13_isSheet_6 ⟨Nat.le_of_ble_eq_true rfl, Nat.le_of_ble_eq_true rfl⟩) ?_
  exact W.zret hx hb hr (t_bl2 (inI_01 _ _ _)) (fun t ht _ => ⟨rI (rfl), ht⟩) (fun q h => by cases h) dX13_isSheet_9
theorem k_X13_isSaying {l : Launch} (v : Int32) : Met l yX13_isSaying (ws_ yX13_isSaying cX13_isSaying 1 (some .boolean)) ({ frames := 1, cells := 0, slots := 0, locals := 25 } : Room) (va_Pc [.int v] pT) (rQ (.int (isSayI v))) 0 0 nof := by
  refine met_T (by decide) rfl (Nat.le_of_ble_eq_true rfl) ?_
  intro p e s m below meth c ls hx hb hr hml hown hts hlocks hl
  have F : CallFix p m c cX13_isSaying 1 s _ lw_all RX13 := ⟨hx, hb, hml, hown, hts⟩
  have hl : lv_has ls 1 [(0, .int v)] := hl
  refine lv_iload_n hx hb dX13_isSaying_0 rfl (lv_at hl 0 rfl) ?_
  refine lv_i2l (v := (v : Int32).toInt64) hx hb dX13_isSaying_1 rfl ?_
  refine lv_lconst (v := 0) hx hb dX13_isSaying_2 (by decide) ?_
  refine lv_ldc2 (v := 5159) hx hb hown (hts _ q1233) dX13_isSaying_3 ?_
  refine c_r (k_S (As := [.long ((v : Int32).toInt64), .long 0, .long 5159]) (rest := []) F (k_X13_in v 0 5159 ((v : Int32).toInt64 : Int64) (0 : Int64) (5159 : Int64) rfl (by decide) (by decide)) (va_cwS 3 hts (lw_S q1227 q1228 q107 q1229) rfl rfl rfl (by decide +kernel) ⟨Nat.le_of_ble_eq_true rfl, Nat.le_of_ble_eq_true rfl⟩) rfl hl.1 rfl (Nat.le_of_ble_eq_true rfl) dX13_isSaying_6 ⟨Nat.le_of_ble_eq_true rfl, Nat.le_of_ble_eq_true rfl⟩) ?_
  refine lv_if_eq (tgt := 27) hx hb dX13_isSaying_9 (by decide) (fun c_9 => ?_) (fun c_9 => ?_)
  · skip
    refine lv_iconst (v := 0) hx hb dX13_isSaying_27 (by decide) ?_
    exact W.zret hx hb hr (rfl) (fun t ht _ => ⟨rI (by rw [isSay_m]; simp [isSayM, c_9]), ht⟩) (fun q h => by cases h) dX13_isSaying_28
  · skip
    refine lv_iload_n hx hb dX13_isSaying_12 rfl (lv_at hl 0 rfl) ?_
    refine lv_sipush (v := 1000) hx hb dX13_isSaying_13 (by decide) ?_
    refine lv_irem hx hb dX13_isSaying_16 (by decide) ?_
    refine lv_sipush (v := 160) hx hb dX13_isSaying_17 (by decide) ?_
    refine lv_icmp_ge (tgt := 27) hx hb dX13_isSaying_20 (by decide) (fun c_20 => ?_) (fun c_20 => ?_)
    · skip
      have c_20 := Int32.not_lt.mpr c_20
      refine lv_iconst (v := 0) hx hb dX13_isSaying_27 (by decide) ?_
      exact W.zret hx hb hr (rfl) (fun t ht _ => ⟨rI (by rw [isSay_m]; simp [isSayM, c_9, c_20]), ht⟩) (fun q h => by cases h) dX13_isSaying_28
    · skip
      have c_20 := Int32.not_le.mp c_20
      refine lv_iconst (v := 1) hx hb dX13_isSaying_23 (by decide) ?_
      refine lv_goto (tgt := 28) hx hb dX13_isSaying_24 (by decide) ?_
      exact W.zret hx hb hr (rfl) (fun t ht _ => ⟨rI (by rw [isSay_m]; simp [isSayM, c_9, c_20]), ht⟩) (fun q h => by cases h) dX13_isSaying_28
theorem k_X13_mostOf {l : Launch} (w : Int32) : Met l yX13_mostOf (ws_ yX13_mostOf cX13_mostOf 1 (some .int)) ({ frames := 0, cells := 0, slots := 0, locals := 0 } : Room) (va_Pc [.int w] pT) (rQ (.int (moI w))) 0 0 nof := by
  refine met_T (by decide) rfl (Nat.le_of_ble_eq_true rfl) ?_
  intro p e s m below meth c ls hx hb hr hml hown hts hlocks hl
  have F : CallFix p m c cX13_mostOf 1 s _ lw_all RX13 := ⟨hx, hb, hml, hown, hts⟩
  have hl : lv_has ls 1 [(0, .int w)] := hl
  refine lv_iload_n hx hb dX13_mostOf_0 rfl (lv_at hl 0 rfl) ?_
  refine lv_if_ne (tgt := 9) hx hb dX13_mostOf_1 (by decide) (fun c_1 => ?_) (fun c_1 => ?_)
  · skip
    refine lv_iload_n hx hb dX13_mostOf_9 rfl (lv_at hl 0 rfl) ?_
    refine lv_iconst (v := 1) hx hb dX13_mostOf_10 (by decide) ?_
    refine lv_icmp_ne (tgt := 18) hx hb dX13_mostOf_11 (by decide) (fun c_11 => ?_) (fun c_11 => ?_)
    · skip
      refine lv_iload_n hx hb dX13_mostOf_18 rfl (lv_at hl 0 rfl) ?_
      refine lv_iconst (v := 2) hx hb dX13_mostOf_19 (by decide) ?_
      refine lv_icmp_ne (tgt := 28) hx hb dX13_mostOf_20 (by decide) (fun c_20 => ?_) (fun c_20 => ?_)
      · skip
        refine lv_iload_n hx hb dX13_mostOf_28 rfl (lv_at hl 0 rfl) ?_
        refine lv_iconst (v := 3) hx hb dX13_mostOf_29 (by decide) ?_
        refine lv_icmp_eq (tgt := 38) hx hb dX13_mostOf_30 (by decide) (fun c_30 => ?_) (fun c_30 => ?_)
        · skip
          refine lv_ldc (v := 65535) hx hb hown (hts _ q1320) dX13_mostOf_38 ?_
          refine lv_goto (tgt := 46) hx hb dX13_mostOf_40 (by decide) ?_
          exact W.iret hx hb hr (fun t ht _ => ⟨rI (by simp [moI, c_1, c_11, c_20, c_30]), ht⟩) (fun q h => by cases h) dX13_mostOf_46
        · skip
          refine lv_iload_n hx hb dX13_mostOf_33 rfl (lv_at hl 0 rfl) ?_
          refine lv_iconst (v := 5) hx hb dX13_mostOf_34 (by decide) ?_
          refine lv_icmp_ne (tgt := 43) hx hb dX13_mostOf_35 (by decide) (fun c_35 => ?_) (fun c_35 => ?_)
          · skip
            refine lv_sipush (v := 9999) hx hb dX13_mostOf_43 (by decide) ?_
            exact W.iret hx hb hr (fun t ht _ => ⟨rI (by simp [moI, c_1, c_11, c_20, c_30, c_35]), ht⟩) (fun q h => by cases h) dX13_mostOf_46
          · skip
            refine lv_ldc (v := 65535) hx hb hown (hts _ q1320) dX13_mostOf_38 ?_
            refine lv_goto (tgt := 46) hx hb dX13_mostOf_40 (by decide) ?_
            exact W.iret hx hb hr (fun t ht _ => ⟨rI (by simp [moI, c_1, c_11, c_20, c_30, c_35]), ht⟩) (fun q h => by cases h) dX13_mostOf_46
      · skip
        refine lv_bipush (v := 9) hx hb dX13_mostOf_23 (by decide) ?_
        refine lv_goto (tgt := 46) hx hb dX13_mostOf_25 (by decide) ?_
        exact W.iret hx hb hr (fun t ht _ => ⟨rI (by simp [moI, c_1, c_11, c_20]), ht⟩) (fun q h => by cases h) dX13_mostOf_46
    · skip
      refine lv_iconst (v := 5) hx hb dX13_mostOf_14 (by decide) ?_
      refine lv_goto (tgt := 46) hx hb dX13_mostOf_15 (by decide) ?_
      exact W.iret hx hb hr (fun t ht _ => ⟨rI (by simp [moI, c_1, c_11]), ht⟩) (fun q h => by cases h) dX13_mostOf_46
  · skip
    refine lv_bipush (v := 6) hx hb dX13_mostOf_4 (by decide) ?_
    refine lv_goto (tgt := 46) hx hb dX13_mostOf_6 (by decide) ?_
    exact W.iret hx hb hr (fun t ht _ => ⟨rI (by simp [moI, c_1]), ht⟩) (fun q h => by cases h) dX13_mostOf_46
theorem k_X13_above {l : Launch} (w : Int32) : Met l yX13_above (ws_ yX13_above cX13_above 1 (some .int)) ({ frames := 0, cells := 0, slots := 0, locals := 0 } : Room) (va_Pc [.int w] pT) (rQ (.int (abI w))) 0 0 nof := by
  refine met_T (by decide) rfl (Nat.le_of_ble_eq_true rfl) ?_
  intro p e s m below meth c ls hx hb hr hml hown hts hlocks hl
  have F : CallFix p m c cX13_above 1 s _ lw_all RX13 := ⟨hx, hb, hml, hown, hts⟩
  have hl : lv_has ls 1 [(0, .int w)] := hl
  refine lv_iload_n hx hb dX13_above_0 rfl (lv_at hl 0 rfl) ?_
  refine lv_iconst (v := 3) hx hb dX13_above_1 (by decide) ?_
  refine lv_icmp_ne (tgt := 9) hx hb dX13_above_2 (by decide) (fun c_2 => ?_) (fun c_2 => ?_)
  · skip
    refine lv_iload_n hx hb dX13_above_9 rfl (lv_at hl 0 rfl) ?_
    refine lv_iconst (v := 4) hx hb dX13_above_10 (by decide) ?_
    refine lv_icmp_ne (tgt := 18) hx hb dX13_above_11 (by decide) (fun c_11 => ?_) (fun c_11 => ?_)
    · skip
      refine lv_iload_n hx hb dX13_above_18 rfl (lv_at hl 0 rfl) ?_
      refine lv_bipush (v := 6) hx hb dX13_above_19 (by decide) ?_
      refine lv_icmp_ne (tgt := 28) hx hb dX13_above_21 (by decide) (fun c_21 => ?_) (fun c_21 => ?_)
      · skip
        refine lv_iconst (v := 0) hx hb dX13_above_28 (by decide) ?_
        exact W.iret hx hb hr (fun t ht _ => ⟨rI (by simp [abI, c_2, c_11, c_21]), ht⟩) (fun q h => by cases h) dX13_above_29
      · skip
        refine lv_iconst (v := 1) hx hb dX13_above_24 (by decide) ?_
        refine lv_goto (tgt := 29) hx hb dX13_above_25 (by decide) ?_
        exact W.iret hx hb hr (fun t ht _ => ⟨rI (by simp [abI, c_2, c_11, c_21]), ht⟩) (fun q h => by cases h) dX13_above_29
    · skip
      refine lv_iconst (v := 3) hx hb dX13_above_14 (by decide) ?_
      refine lv_goto (tgt := 29) hx hb dX13_above_15 (by decide) ?_
      exact W.iret hx hb hr (fun t ht _ => ⟨rI (by simp [abI, c_2, c_11]), ht⟩) (fun q h => by cases h) dX13_above_29
  · skip
    refine lv_iconst (v := 2) hx hb dX13_above_5 (by decide) ?_
    refine lv_goto (tgt := 29) hx hb dX13_above_6 (by decide) ?_
    exact W.iret hx hb hr (fun t ht _ => ⟨rI (by simp [abI, c_2]), ht⟩) (fun q h => by cases h) dX13_above_29
theorem k_X13_ones {l : Launch} (v : Int32) (hv : isN v 65536) : Met l yX13_ones (ws_ yX13_ones cX13_ones 3 (some .int)) ({ frames := 0, cells := 0, slots := 0, locals := 0 } : Room) (va_Pc [.int v] pT) (rQ (.int (bcI v))) 0 0 nof := by
  refine met_T (by decide) rfl (Nat.le_of_ble_eq_true rfl) ?_
  intro p e s m below meth c ls hx hb hr hml hown hts hlocks hl
  have F : CallFix p m c cX13_ones 3 s _ lw_all RX13 := ⟨hx, hb, hml, hown, hts⟩
  have hl : lv_has ls 3 [(0, .int v)] := hl
  refine lv_iconst (v := 0) hx hb dX13_ones_0 (by decide) ?_
  refine lv_istore_n (lv' := [(1, .int 0), (0, .int v)]) hx hb dX13_ones_1 rfl hl (by decide) rfl (fun ls hl => ?_)
  refine lv_iconst (v := 0) hx hb dX13_ones_2 (by decide) ?_
  refine lv_istore_n (lv' := [(2, .int 0), (1, .int 0), (0, .int v)]) hx hb dX13_ones_3 rfl hl (by decide) rfl (fun ls hl => ?_)
  have lp4 : ∀ (fuel : Nat) (i : Nat), (i ≤ 16) → 16 - i < fuel → ∀ (v1 : Int32) (v2 : Int32), v1 = itr (onS v) 0 i → v2 = nI i → ∀ (ls : Array Slot), lv_has ls 3 [(0, .int v), (1, .int v1), (2, .int v2)] → W p l e ({ frames := 0, cells := 0, slots := 0, locals := 0 } : Room) s m ([.int v] : List Value).toArray below meth c s.heap [] 0 0 (MQ below (rQ (.int (bcI v))) ([.int v] : List Value).toArray s 0 0 nof) (F0 m 4 ls []) := by
    intro fuel
    induction fuel with
    | zero => intro i hi hf; exact absurd hf (Nat.not_lt_zero _)
    | succ fuel ih4 =>
      intro i hi hf4 v1 v2 e1 e2  ls hl
      subst e1 e2
      refine lv_iload_n hx hb dX13_ones_4 rfl (lv_at hl 2 rfl) ?_
      refine lv_bipush (v := 16) hx hb dX13_ones_5 (by decide) ?_
      refine lv_icmp_ge (tgt := 24) hx hb dX13_ones_7 (by decide) (fun c_7 => ?_) (fun c_7 => ?_)
      · skip
        have c_7 : 16 ≤ i := (nle (a := 16) (b := i) (rfl) (rfl) (by omega) (by omega)).mp c_7
        refine lv_iload_n hx hb dX13_ones_24 rfl (lv_at hl 1 rfl) ?_
        exact W.iret hx hb hr (fun t ht _ => ⟨rI (by rw [← on_bc hv, onI, show i = 16 by omega]), ht⟩) (fun q h => by cases h) dX13_ones_25
      · skip
        have c_7 : ¬ 16 ≤ i := fun z => c_7 ((nle (a := 16) (b := i) (rfl) (rfl) (by omega) (by omega)).mpr z)
        refine lv_iload_n hx hb dX13_ones_10 rfl (lv_at hl 1 rfl) ?_
        refine lv_iload_n hx hb dX13_ones_11 rfl (lv_at hl 0 rfl) ?_
        refine lv_iload_n hx hb dX13_ones_12 rfl (lv_at hl 2 rfl) ?_
        refine lv_ishr hx hb dX13_ones_13 ?_
        refine lv_iconst (v := 1) hx hb dX13_ones_14 (by decide) ?_
        refine lv_iand hx hb dX13_ones_15 ?_
        refine lv_iadd hx hb dX13_ones_16 ?_
        refine lv_istore_n (lv' := [(1, .int ((itr (onS v) 0 i) + ((v >>> ((nI i) &&& 31)) &&& (1 : Int32)))), (0, .int v), (2, .int (nI i))]) hx hb dX13_ones_17 rfl hl (by decide) rfl (fun ls hl => ?_)
        refine lv_iinc (v := (nI (i + 1))) (lv' := [(2, .int (nI (i + 1))), (1, .int ((itr (onS v) 0 i) + ((v >>> ((nI i) &&& 31)) &&& (1 : Int32)))), (0, .int v)]) hx hb dX13_ones_18 hl (k := 2) rfl (nI_1 _) (by decide) rfl (fun ls hl => ?_)
        refine lv_goto (tgt := 4) hx hb dX13_ones_21 (by decide) ?_
        exact ih4 (i + 1) (by omega) (by omega) ((itr (onS v) 0 i) + ((v >>> ((nI i) &&& 31)) &&& (1 : Int32))) (nI (i + 1)) (by rw [itr_s]; rfl) (rfl) ls (lv_sub hl [2, 1, 0] rfl)
  exact lp4 (_ + 1) (0) (Nat.zero_le _) (Nat.lt_succ_self _) 0 0 (rfl) (rfl) ls (lv_sub hl [2, 1, 0] rfl)
theorem k_X13_finds {l : Launch} {D : va_G} {L : Nat → Nat} {A : Nat → Prop} (x : mst) (k : Nat) (hk : k < 7) : Met l yX13_finds (ws_ yX13_finds cX13_finds 2 (some .int)) ({ frames := 0, cells := 0, slots := 0, locals := 0 } : Room) (va_Pc [.ref (L 0), .int (nI k)] (pI D (cfM D L x) A)) (nQ D (cfM D L (fndM x k)) A (some (.int (-1000001 - nI k)))) 0 0 A := by
  refine met_I (by decide) rfl (Nat.le_of_ble_eq_true rfl) ?_
  intro p e s m below meth c ls hx hb hr hml hown hts hlocks hl hI hK
  have F : CallFix p m c cX13_finds 2 s _ lw_all RX13 := ⟨hx, hb, hml, hown, hts⟩
  have hl : lv_has ls 2 [(0, .ref (L 0)), (1, .int (nI k))] := hl
  have hS : va_S A s.heap s.heap [] := va_S.rf
  refine lv_aload_n hx hb dX13_finds_0 rfl (lv_at hl 0 rfl) ?_
  refine r_get (C := RX13) (T := TX13) (N := 18) hx hb hts in_X13 hown hK hI (mf_main) rfl 5 (by decide) (hts _ q1169) (fun _ h => h) rfl dX13_finds_1 ?_
  refine lv_iload_n hx hb dX13_finds_4 rfl (lv_at hl 1 rfl) ?_
  refine lv_dup2_11 hx hb dX13_finds_5 rfl rfl ?_
  refine n_iald (k := k) hx hb hK hI (mf_found) (rfl) (by omega) (by decide) dX13_finds_6 ?_
  refine lv_iconst (v := 1) hx hb dX13_finds_7 (by decide) ?_
  refine lv_iadd hx hb dX13_finds_8 ?_
  obtain ⟨x1, ex1⟩ : ∃ z, z = yr x 1 k ((x.2.1 1 k) + (1 : Int32)) := ⟨_, rfl⟩
  refine n_iast (cf' := cfM D L x1) (k := k) hx hb hK hI hS (mf_found) (rfl) (by omega) (by decide) (by rw [ex1]; exact ms_r (r := 1) (by decide) (by decide) mf_found) dX13_finds_9 (fun H1 locs1 hI hS => ?_)
  refine lv_ldc (v := (-1000001)) hx hb hown (hts _ q1242) dX13_finds_10 ?_
  refine lv_iload_n hx hb dX13_finds_12 rfl (lv_at hl 1 rfl) ?_
  refine lv_isub hx hb dX13_finds_13 ?_
  exact W.iret hx hb hr (fun t ht _ => ⟨rI (rfl), by rw [ht]; exact hw_eq hI (congrArg (cfM D L) (ex1)), hS.F ht⟩) hS.2.2 dX13_finds_14
theorem k_X13_isGlove {l : Launch} {D : va_G} {L : Nat → Nat} {A : Nat → Prop} (x : mst) (v : Int32) : Met l yX13_isGlove (ws_ yX13_isGlove cX13_isGlove 2 (some .boolean)) ({ frames := 1, cells := 0, slots := 0, locals := 25 } : Room) (va_Pc [.ref (L 0), .int v] (pI D (cfM D L x) A)) (rQ (.int (isGlI (x.1 0) v))) 0 0 nof := by
  refine met_I (by decide) rfl (Nat.le_of_ble_eq_true rfl) ?_
  intro p e s m below meth c ls hx hb hr hml hown hts hlocks hl hI hK
  have F : CallFix p m c cX13_isGlove 2 s _ lw_all RX13 := ⟨hx, hb, hml, hown, hts⟩
  have hl : lv_has ls 2 [(0, .ref (L 0)), (1, .int v)] := hl
  refine lv_iload_n hx hb dX13_isGlove_0 rfl (lv_at hl 1 rfl) ?_
  refine lv_i2l (v := (v : Int32).toInt64) hx hb dX13_isGlove_1 rfl ?_
  refine lv_lconst (v := 0) hx hb dX13_isGlove_2 (by decide) ?_
  refine lv_aload_n hx hb dX13_isGlove_3 rfl (lv_at hl 0 rfl) ?_
  refine r_get (C := RX13) (T := TX13) (N := 18) hx hb hts in_X13 hown hK hI (mf_main) rfl 0 (by decide) (hts _ q1164) (fun _ h => h) rfl dX13_isGlove_4 ?_
  refine lv_iconst (v := 0) hx hb dX13_isGlove_7 (by decide) ?_
  refine n_ialdv (k := 0) (v := (x.1 0 1 0)) hx hb hK hI (mf_d) (rfl) (by decide) (by decide) (rfl) dX13_isGlove_8 ?_
  refine lv_iconst (v := 1) hx hb dX13_isGlove_9 (by decide) ?_
  refine lv_isub hx hb dX13_isGlove_10 ?_
  refine lv_i2l (v := (((x.1 0 1 0) - (1 : Int32)) : Int32).toInt64) hx hb dX13_isGlove_11 rfl ?_
  refine c_r (k_S (As := [.long ((v : Int32).toInt64), .long 0, .long ((((x.1 0 1 0) - (1 : Int32)) : Int32).toInt64)]) (rest := []) F (k_X13_in v 0 ((x.1 0 1 0) - (1 : Int32)) ((v : Int32).toInt64 : Int64) (0 : Int64) ((((x.1 0 1 0) - (1 : Int32)) : Int32).toInt64 : Int64) rfl (by decide) rfl) (va_cwS 3 hts (lw_S q1227 q1228 q107 q1229) rfl rfl rfl (by decide +kernel) ⟨Nat.le_of_ble_eq_true rfl, Nat.le_of_ble_eq_true rfl⟩) rfl hl.1 rfl (Nat.le_of_ble_eq_true rfl) dX13_isGlove_12 ⟨Nat.le_of_ble_eq_true rfl, Nat.le_of_ble_eq_true rfl⟩) ?_
  exact W.zret hx hb hr (t_bl2 (inI_01 _ _ _)) (fun t ht _ => ⟨rI (rfl), ht⟩) (fun q h => by cases h) dX13_isGlove_15
theorem k_X13_its {l : Launch} {D : va_G} {L : Nat → Nat} {A : Nat → Prop} (x : mst) (kv rv : Int32) (k r : Nat) (hk : k < 8) (hr : r < 7) (ek : kv = nI k) (er : rv = nI r) : Met l yX13_its (ws_ yX13_its cX13_its 3 (some .int)) ({ frames := 0, cells := 0, slots := 0, locals := 0 } : Room) (va_Pc [.ref (L 0), .int kv, .int rv] (pI D (cfM D L x) A)) (rQ (.int (x.1 0 (2 + r) k))) 0 0 nof := by
  refine met_I (by decide) rfl (Nat.le_of_ble_eq_true rfl) ?_
  intro p e s m below meth c ls hx hb hr hml hown hts hlocks hl hI hK
  have F : CallFix p m c cX13_its 3 s _ lw_all RX13 := ⟨hx, hb, hml, hown, hts⟩
  have hl : lv_has ls 3 [(0, .ref (L 0)), (1, .int kv), (2, .int rv)] := hl
  refine lv_aload_n hx hb dX13_its_0 rfl (lv_at hl 0 rfl) ?_
  refine r_get (C := RX13) (T := TX13) (N := 18) hx hb hts in_X13 hown hK hI (mf_main) rfl 0 (by decide) (hts _ q1164) (fun _ h => h) rfl dX13_its_1 ?_
  refine lv_bipush (v := 9) hx hb dX13_its_4 (by decide) ?_
  refine lv_bipush (v := 8) hx hb dX13_its_6 (by decide) ?_
  refine lv_iload_n hx hb dX13_its_8 rfl (lv_at hl 2 rfl) ?_
  refine lv_imul hx hb dX13_its_9 ?_
  refine lv_iadd hx hb dX13_its_10 ?_
  refine lv_iload_n hx hb dX13_its_11 rfl (lv_at hl 1 rfl) ?_
  refine lv_iadd hx hb dX13_its_12 ?_
  refine n_ialdv (k := ((9 + (8 * r)) + k)) (v := (x.1 0 (2 + r) k)) hx hb hK hI (mf_d) (na_add (na_add (rfl) (na_mul (rfl) (er))) (ek)) (by omega) (by decide) (md_row _ (by omega) (by omega)) dX13_its_13 ?_
  exact W.iret hx hb hr (fun t ht _ => ⟨rI (rfl), ht⟩) (fun q h => by cases h) dX13_its_14
theorem k_X13_sets {l : Launch} {D : va_G} {L : Nat → Nat} {A : Nat → Prop} (x : mst) (kv rv : Int32) (k r : Nat) (v : Int32) (hk : k < 8) (hr : r < 7) (ek : kv = nI k) (er : rv = nI r) : Met l yX13_sets (ws_ yX13_sets cX13_sets 4 none) ({ frames := 0, cells := 0, slots := 0, locals := 0 } : Room) (va_Pc [.ref (L 0), .int kv, .int rv, .int v] (pI D (cfM D L x) A)) (nQ D (cfM D L (ys x 0 (u2 (x.1 0) (2 + r) k v))) A none) 0 0 A := by
  refine met_I (by decide) rfl (Nat.le_of_ble_eq_true rfl) ?_
  intro p e s m below meth c ls hx hb hr hml hown hts hlocks hl hI hK
  have F : CallFix p m c cX13_sets 4 s _ lw_all RX13 := ⟨hx, hb, hml, hown, hts⟩
  have hl : lv_has ls 4 [(0, .ref (L 0)), (1, .int kv), (2, .int rv), (3, .int v)] := hl
  have hS : va_S A s.heap s.heap [] := va_S.rf
  refine lv_aload_n hx hb dX13_sets_0 rfl (lv_at hl 0 rfl) ?_
  refine r_get (C := RX13) (T := TX13) (N := 18) hx hb hts in_X13 hown hK hI (mf_main) rfl 0 (by decide) (hts _ q1164) (fun _ h => h) rfl dX13_sets_1 ?_
  refine lv_bipush (v := 9) hx hb dX13_sets_4 (by decide) ?_
  refine lv_bipush (v := 8) hx hb dX13_sets_6 (by decide) ?_
  refine lv_iload_n hx hb dX13_sets_8 rfl (lv_at hl 2 rfl) ?_
  refine lv_imul hx hb dX13_sets_9 ?_
  refine lv_iadd hx hb dX13_sets_10 ?_
  refine lv_iload_n hx hb dX13_sets_11 rfl (lv_at hl 1 rfl) ?_
  refine lv_iadd hx hb dX13_sets_12 ?_
  refine lv_iload_n hx hb dX13_sets_13 rfl (lv_at hl 3 rfl) ?_
  obtain ⟨x1, ex1⟩ : ∃ z, z = ys x 0 (u2 (x.1 0) (2 + r) k v) := ⟨_, rfl⟩
  refine n_iast (cf' := cfM D L x1) (k := ((9 + (8 * r)) + k)) hx hb hK hI hS (mf_d) (na_add (na_add (rfl) (na_mul (rfl) (er))) (ek)) (by omega) (by decide) (by rw [ex1]; exact ms_w (w := 0) (by decide) (mu_row _ (by omega) (by omega) _) (by rw [u2_ne (by omega)])) dX13_sets_14 (fun H1 locs1 hI hS => ?_)
  exact W.vret hx hb hr (fun t ht _ => ⟨rfl, by rw [ht]; exact hw_eq hI (congrArg (cfM D L) (ex1)), hS.F ht⟩) hS.2.2 dX13_sets_15
theorem k_X13_becomes_l {l : Launch} {D : va_G} {L : Nat → Nat} {A : Nat → Prop} (x : mst) (v wv : Int32) (i : Nat) (hi : i < 6) (ew : wv = nI (3 + i)) : Met l yX13_becomes (ws_ yX13_becomes cX13_becomes 4 (some .int)) ({ frames := 0, cells := 0, slots := 0, locals := 0 } : Room) (va_Pc [.ref (L 0), .int wv, .int v] (pI D (cfM D L x) A)) (nQ D (cfM D L (ys x 0 (u2 (x.1 0) 0 i v))) A (some (.int (x.1 0 0 i)))) 0 0 A := by
  refine met_I (by decide) rfl (Nat.le_of_ble_eq_true rfl) ?_
  intro p e s m below meth c ls hx hb hr hml hown hts hlocks hl hI hK
  have F : CallFix p m c cX13_becomes 4 s _ lw_all RX13 := ⟨hx, hb, hml, hown, hts⟩
  have hl : lv_has ls 4 [(0, .ref (L 0)), (1, .int wv), (2, .int v)] := hl
  have hS : va_S A s.heap s.heap [] := va_S.rf
  refine lv_aload_n hx hb dX13_becomes_0 rfl (lv_at hl 0 rfl) ?_
  refine r_get (C := RX13) (T := TX13) (N := 18) hx hb hts in_X13 hown hK hI (mf_main) rfl 0 (by decide) (hts _ q1164) (fun _ h => h) rfl dX13_becomes_1 ?_
  refine lv_iload_n hx hb dX13_becomes_4 rfl (lv_at hl 1 rfl) ?_
  refine n_ialdv (k := (3 + i)) (v := (x.1 0 0 i)) hx hb hK hI (mf_d) (ew) (by omega) (by decide) (md_list _ (by omega)) dX13_becomes_5 ?_
  refine lv_istore_n (lv' := [(3, .int (x.1 0 0 i)), (0, .ref (L 0)), (1, .int wv), (2, .int v)]) hx hb dX13_becomes_6 rfl hl (by decide) rfl (fun ls hl => ?_)
  refine lv_aload_n hx hb dX13_becomes_7 rfl (lv_at hl 1 rfl) ?_
  refine r_get (C := RX13) (T := TX13) (N := 18) hx hb hts in_X13 hown hK hI (mf_main) rfl 0 (by decide) (hts _ q1164) (fun _ h => h) rfl dX13_becomes_8 ?_
  refine lv_iload_n hx hb dX13_becomes_11 rfl (lv_at hl 2 rfl) ?_
  refine lv_iload_n hx hb dX13_becomes_12 rfl (lv_at hl 3 rfl) ?_
  obtain ⟨x1, ex1⟩ : ∃ z, z = ys x 0 (u2 (x.1 0) 0 i v) := ⟨_, rfl⟩
  refine n_iast (cf' := cfM D L x1) (k := (3 + i)) hx hb hK hI hS (mf_d) (ew) (by omega) (by decide) (by rw [ex1]; exact ms_w (w := 0) (by decide) (mu_list _ (by omega) _) (by rw [u2_ne (by decide)])) dX13_becomes_13 (fun H1 locs1 hI hS => ?_)
  refine lv_iload_n hx hb dX13_becomes_14 rfl (lv_at hl 0 rfl) ?_
  exact W.iret hx hb hr (fun t ht _ => ⟨rI (rfl), by rw [ht]; exact hw_eq hI (congrArg (cfM D L) (ex1)), hS.F ht⟩) hS.2.2 dX13_becomes_15
theorem k_X13_becomes_r {l : Launch} {D : va_G} {L : Nat → Nat} {A : Nat → Prop} (x : mst) (v wv : Int32) (r k : Nat) (hr : r < 7) (hk : k < 8) (ew : wv = nI (9 + 8 * r + k)) : Met l yX13_becomes (ws_ yX13_becomes cX13_becomes 4 (some .int)) ({ frames := 0, cells := 0, slots := 0, locals := 0 } : Room) (va_Pc [.ref (L 0), .int wv, .int v] (pI D (cfM D L x) A)) (nQ D (cfM D L (ys x 0 (u2 (x.1 0) (2 + r) k v))) A (some (.int (x.1 0 (2 + r) k)))) 0 0 A := by
  refine met_I (by decide) rfl (Nat.le_of_ble_eq_true rfl) ?_
  intro p e s m below meth c ls hx hb hr hml hown hts hlocks hl hI hK
  have F : CallFix p m c cX13_becomes 4 s _ lw_all RX13 := ⟨hx, hb, hml, hown, hts⟩
  have hl : lv_has ls 4 [(0, .ref (L 0)), (1, .int wv), (2, .int v)] := hl
  have hS : va_S A s.heap s.heap [] := va_S.rf
  refine lv_aload_n hx hb dX13_becomes_0 rfl (lv_at hl 0 rfl) ?_
  refine r_get (C := RX13) (T := TX13) (N := 18) hx hb hts in_X13 hown hK hI (mf_main) rfl 0 (by decide) (hts _ q1164) (fun _ h => h) rfl dX13_becomes_1 ?_
  refine lv_iload_n hx hb dX13_becomes_4 rfl (lv_at hl 1 rfl) ?_
  refine n_ialdv (k := (9 + 8 * r + k)) (v := (x.1 0 (2 + r) k)) hx hb hK hI (mf_d) (ew) (by omega) (by decide) (md_row _ (by omega) (by omega)) dX13_becomes_5 ?_
  refine lv_istore_n (lv' := [(3, .int (x.1 0 (2 + r) k)), (0, .ref (L 0)), (1, .int wv), (2, .int v)]) hx hb dX13_becomes_6 rfl hl (by decide) rfl (fun ls hl => ?_)
  refine lv_aload_n hx hb dX13_becomes_7 rfl (lv_at hl 1 rfl) ?_
  refine r_get (C := RX13) (T := TX13) (N := 18) hx hb hts in_X13 hown hK hI (mf_main) rfl 0 (by decide) (hts _ q1164) (fun _ h => h) rfl dX13_becomes_8 ?_
  refine lv_iload_n hx hb dX13_becomes_11 rfl (lv_at hl 2 rfl) ?_
  refine lv_iload_n hx hb dX13_becomes_12 rfl (lv_at hl 3 rfl) ?_
  obtain ⟨x1, ex1⟩ : ∃ z, z = ys x 0 (u2 (x.1 0) (2 + r) k v) := ⟨_, rfl⟩
  refine n_iast (cf' := cfM D L x1) (k := (9 + 8 * r + k)) hx hb hK hI hS (mf_d) (ew) (by omega) (by decide) (by rw [ex1]; exact ms_w (w := 0) (by decide) (mu_row _ (by omega) (by omega) _) (by rw [u2_ne (by omega)])) dX13_becomes_13 (fun H1 locs1 hI hS => ?_)
  refine lv_iload_n hx hb dX13_becomes_14 rfl (lv_at hl 0 rfl) ?_
  exact W.iret hx hb hr (fun t ht _ => ⟨rI (rfl), by rw [ht]; exact hw_eq hI (congrArg (cfM D L) (ex1)), hS.F ht⟩) hS.2.2 dX13_becomes_15
theorem k_X13_becomes_z {l : Launch} {D : va_G} {L : Nat → Nat} {A : Nat → Prop} (x : mst) (v wv : Int32) (ew : wv = nI (2)) : Met l yX13_becomes (ws_ yX13_becomes cX13_becomes 4 (some .int)) ({ frames := 0, cells := 0, slots := 0, locals := 0 } : Room) (va_Pc [.ref (L 0), .int wv, .int v] (pI D (cfM D L x) A)) (nQ D (cfM D L (ys x 0 (u2 (x.1 0) 1 3 v))) A (some (.int (x.1 0 1 3)))) 0 0 A := by
  refine met_I (by decide) rfl (Nat.le_of_ble_eq_true rfl) ?_
  intro p e s m below meth c ls hx hb hr hml hown hts hlocks hl hI hK
  have F : CallFix p m c cX13_becomes 4 s _ lw_all RX13 := ⟨hx, hb, hml, hown, hts⟩
  have hl : lv_has ls 4 [(0, .ref (L 0)), (1, .int wv), (2, .int v)] := hl
  have hS : va_S A s.heap s.heap [] := va_S.rf
  refine lv_aload_n hx hb dX13_becomes_0 rfl (lv_at hl 0 rfl) ?_
  refine r_get (C := RX13) (T := TX13) (N := 18) hx hb hts in_X13 hown hK hI (mf_main) rfl 0 (by decide) (hts _ q1164) (fun _ h => h) rfl dX13_becomes_1 ?_
  refine lv_iload_n hx hb dX13_becomes_4 rfl (lv_at hl 1 rfl) ?_
  refine n_ialdv (k := 2) (v := (x.1 0 1 3)) hx hb hK hI (mf_d) (ew) (by decide) (by decide) (rfl) dX13_becomes_5 ?_
  refine lv_istore_n (lv' := [(3, .int (x.1 0 1 3)), (0, .ref (L 0)), (1, .int wv), (2, .int v)]) hx hb dX13_becomes_6 rfl hl (by decide) rfl (fun ls hl => ?_)
  refine lv_aload_n hx hb dX13_becomes_7 rfl (lv_at hl 1 rfl) ?_
  refine r_get (C := RX13) (T := TX13) (N := 18) hx hb hts in_X13 hown hK hI (mf_main) rfl 0 (by decide) (hts _ q1164) (fun _ h => h) rfl dX13_becomes_8 ?_
  refine lv_iload_n hx hb dX13_becomes_11 rfl (lv_at hl 2 rfl) ?_
  refine lv_iload_n hx hb dX13_becomes_12 rfl (lv_at hl 3 rfl) ?_
  obtain ⟨x1, ex1⟩ : ∃ z, z = ys x 0 (u2 (x.1 0) 1 3 v) := ⟨_, rfl⟩
  refine n_iast (cf' := cfM D L x1) (k := 2) hx hb hK hI hS (mf_d) (ew) (by decide) (by decide) (by rw [ex1]; exact ms_w (w := 0) (by decide) (mu_sc _ 3 2 _ (by decide)) (by rw [u2_at, if_neg (by decide)])) dX13_becomes_13 (fun H1 locs1 hI hS => ?_)
  refine lv_iload_n hx hb dX13_becomes_14 rfl (lv_at hl 0 rfl) ?_
  exact W.iret hx hb hr (fun t ht _ => ⟨rI (rfl), by rw [ht]; exact hw_eq hI (congrArg (cfM D L) (ex1)), hS.F ht⟩) hS.2.2 dX13_becomes_15
theorem k_X13_isIn {l : Launch} {D : va_G} {L : Nat → Nat} {A : Nat → Prop} (x : mst) (k : Nat) (room : Int32) (hk : k < 8) : Met l yX13_isIn (ws_ yX13_isIn cX13_isIn 3 (some .boolean)) ({ frames := 1, cells := 0, slots := 0, locals := 22 } : Room) (va_Pc [.ref (L 0), .int (nI k), .int room] (pI D (cfM D L x) A)) (rQ (.int (isiI (x.1 0) k room))) 0 0 nof := by
  refine met_I (by decide) rfl (Nat.le_of_ble_eq_true rfl) ?_
  intro p e s m below meth c ls hx hb hr hml hown hts hlocks hl hI hK
  have F : CallFix p m c cX13_isIn 3 s _ lw_all RX13 := ⟨hx, hb, hml, hown, hts⟩
  have hl : lv_has ls 3 [(0, .ref (L 0)), (1, .int (nI k)), (2, .int room)] := hl
  refine lv_aload_n hx hb dX13_isIn_0 rfl (lv_at hl 0 rfl) ?_
  refine r_get (C := RX13) (T := TX13) (N := 18) hx hb hts in_X13 hown hK hI (mf_main) rfl 8 (by decide) (hts _ q1172) (fun _ h => h) rfl dX13_isIn_1 ?_
  refine lv_iload_n hx hb dX13_isIn_4 rfl (lv_at hl 1 rfl) ?_
  refine lv_ishr hx hb dX13_isIn_5 ?_
  refine lv_iconst (v := 1) hx hb dX13_isIn_6 (by decide) ?_
  refine lv_iand hx hb dX13_isIn_7 ?_
  refine lv_if_ne (tgt := 25) hx hb dX13_isIn_8 (by decide) (fun c_8 => ?_) (fun c_8 => ?_)
  · skip
    refine lv_iconst (v := 0) hx hb dX13_isIn_25 (by decide) ?_
    exact W.zret hx hb hr (rfl) (fun t ht _ => ⟨rI (by simp only [← hs_0] at c_8; simp [isiI, c_8]), ht⟩) (fun q h => by cases h) dX13_isIn_26
  · skip
    refine lv_aload_n hx hb dX13_isIn_11 rfl (lv_at hl 0 rfl) ?_
    refine lv_iload_n hx hb dX13_isIn_12 rfl (lv_at hl 1 rfl) ?_
    refine lv_iconst (v := 1) hx hb dX13_isIn_13 (by decide) ?_
    refine c_r (k_V (As := [.int (nI k), .int 1]) (rest := []) F (k_X13_its x (nI k) 1 k 1 (by omega) (by omega) rfl rfl) (cwV 2 hts (lw_V q1256 q1258 qs49 q107 q1259) rfl rfl rfl (by decide +kernel) ⟨Nat.le_of_ble_eq_true rfl, Nat.le_of_ble_eq_true rfl⟩) hI hK (hw.recv hI hK (mf_main) rfl) rfl hl.1 rfl (Nat.le_of_ble_eq_true rfl) dX13_isIn_14 ⟨Nat.le_of_ble_eq_true rfl, Nat.le_of_ble_eq_true rfl⟩) ?_
    refine lv_iload_n hx hb dX13_isIn_17 rfl (lv_at hl 2 rfl) ?_
    refine lv_icmp_ne (tgt := 25) hx hb dX13_isIn_18 (by decide) (fun c_18 => ?_) (fun c_18 => ?_)
    · skip
      refine lv_iconst (v := 0) hx hb dX13_isIn_25 (by decide) ?_
      exact W.zret hx hb hr (rfl) (fun t ht _ => ⟨rI (by simp only [← hs_0] at c_8; simp [isiI, c_8, c_18]), ht⟩) (fun q h => by cases h) dX13_isIn_26
    · skip
      refine lv_iconst (v := 1) hx hb dX13_isIn_21 (by decide) ?_
      refine lv_goto (tgt := 26) hx hb dX13_isIn_22 (by decide) ?_
      exact W.zret hx hb hr (rfl) (fun t ht _ => ⟨rI (by simp only [← hs_0] at c_8; simp [isiI, c_8, c_18]), ht⟩) (fun q h => by cases h) dX13_isIn_26
theorem k_X13_hasOther {l : Launch} {D : va_G} {L : Nat → Nat} {A : Nat → Prop} (x : mst) (hO : wOk (x.1 0)) (k : Nat) (hk : k < 8) : Met l yX13_hasOther (ws_ yX13_hasOther cX13_hasOther 3 (some .boolean)) ({ frames := 2, cells := 0, slots := 0, locals := 44 } : Room) (va_Pc [.ref (L 0), .int (nI k)] (pI D (cfM D L x) A)) (rQ (.int (haoI (x.1 0) k))) 0 0 nof := by
  refine met_I (by decide) rfl (Nat.le_of_ble_eq_true rfl) ?_
  intro p e s m below meth c ls hx hb hr hml hown hts hlocks hl hI hK
  have F : CallFix p m c cX13_hasOther 3 s _ lw_all RX13 := ⟨hx, hb, hml, hown, hts⟩
  have hl : lv_has ls 3 [(0, .ref (L 0)), (1, .int (nI k))] := hl
  obtain ⟨n, hn, h8⟩ : ∃ n, x.1 0 1 0 = nI n ∧ n ≤ 8 := ⟨_, hO.n⟩
  have hN : wN (x.1 0) = n := by unfold wN; rw [hn, nI_clamp (by omega)]
  refine lv_iconst (v := 0) hx hb dX13_hasOther_0 (by decide) ?_
  refine lv_istore_n (lv' := [(2, .int 0), (0, .ref (L 0)), (1, .int (nI k))]) hx hb dX13_hasOther_1 rfl hl (by decide) rfl (fun ls hl => ?_)
  have lp2 : ∀ (fuel : Nat) (i : Nat), (i ≤ n) → (∀ o, o < i → o ≠ k → isiI (x.1 0) o (x.1 0 (2 + 1) k) = 0) → n - i < fuel → ∀ (v2 : Int32), v2 = nI i → ∀ (ls : Array Slot), lv_has ls 3 [(0, .ref (L 0)), (1, .int (nI k)), (2, .int v2)] → W p l e ({ frames := 2, cells := 0, slots := 0, locals := 44 } : Room) s m ([.ref (L 0), .int (nI k)] : List Value).toArray below meth c s.heap [] 0 0 (MQ below (rQ (.int (haoI (x.1 0) k))) ([.ref (L 0), .int (nI k)] : List Value).toArray s 0 0 nof) (F0 m 2 ls []) := by
    intro fuel
    induction fuel with
    | zero => intro i hi hp hf; exact absurd hf (Nat.not_lt_zero _)
    | succ fuel ih2 =>
      intro i hi hp hf2 v2 e2  ls hl
      subst e2
      refine lv_iload_n hx hb dX13_hasOther_2 rfl (lv_at hl 2 rfl) ?_
      refine lv_aload_n hx hb dX13_hasOther_3 rfl (lv_at hl 0 rfl) ?_
      refine r_get (C := RX13) (T := TX13) (N := 18) hx hb hts in_X13 hown hK hI (mf_main) rfl 0 (by decide) (hts _ q1164) (fun _ h => h) rfl dX13_hasOther_4 ?_
      refine lv_iconst (v := 0) hx hb dX13_hasOther_7 (by decide) ?_
      refine n_ialdv (k := 0) (v := (x.1 0 1 0)) hx hb hK hI (mf_d) (rfl) (by decide) (by decide) (rfl) dX13_hasOther_8 ?_
      refine lv_icmp_ge (tgt := 39) hx hb dX13_hasOther_9 (by decide) (fun c_9 => ?_) (fun c_9 => ?_)
      · skip
        have c_9 : n ≤ i := (nle (a := n) (b := i) (hn) (rfl) (by omega) (by omega)).mp c_9
        refine lv_iconst (v := 0) hx hb dX13_hasOther_39 (by decide) ?_
        exact W.zret hx hb hr (rfl) (fun t ht _ => ⟨rI (by rw [haoI, if_pos ((wh_alone _ _ (by omega) hk).mpr (fun o ho hne => hp o (by omega) hne))]), ht⟩) (fun q h => by cases h) dX13_hasOther_40
      · skip
        have c_9 : ¬ n ≤ i := fun z => c_9 ((nle (a := n) (b := i) (hn) (rfl) (by omega) (by omega)).mpr z)
        refine lv_iload_n hx hb dX13_hasOther_12 rfl (lv_at hl 2 rfl) ?_
        refine lv_iload_n hx hb dX13_hasOther_13 rfl (lv_at hl 1 rfl) ?_
        refine lv_icmp_eq (tgt := 33) hx hb dX13_hasOther_14 (by decide) (fun c_14 => ?_) (fun c_14 => ?_)
        · skip
          have c_14 : i = k := (neq (a := i) (b := k) (rfl) (rfl) (by omega) (by omega)).mp c_14
          refine lv_iinc (v := (nI (i + 1))) (lv' := [(2, .int (nI (i + 1))), (0, .ref (L 0)), (1, .int (nI k))]) hx hb dX13_hasOther_33 hl (k := 2) rfl (nI_1 _) (by decide) rfl (fun ls hl => ?_)
          refine lv_goto (tgt := 2) hx hb dX13_hasOther_36 (by decide) ?_
          exact ih2 (i + 1) (by omega) (fun o ho hne => by rcases Nat.lt_succ_iff_lt_or_eq.mp ho with h | h; exact hp o h hne; subst h; first | exact absurd c_14 hne | exact c_28) (by omega) (nI (i + 1)) (rfl) ls (lv_sub hl [1, 2, 0] rfl)
        · skip
          have c_14 : ¬ i = k := fun z => c_14 ((neq (a := i) (b := k) (rfl) (rfl) (by omega) (by omega)).mpr z)
          refine lv_aload_n hx hb dX13_hasOther_17 rfl (lv_at hl 0 rfl) ?_
          refine lv_iload_n hx hb dX13_hasOther_18 rfl (lv_at hl 2 rfl) ?_
          refine lv_aload_n hx hb dX13_hasOther_19 rfl (lv_at hl 0 rfl) ?_
          refine lv_iload_n hx hb dX13_hasOther_20 rfl (lv_at hl 1 rfl) ?_
          refine lv_iconst (v := 1) hx hb dX13_hasOther_21 (by decide) ?_
          refine c_r (k_V (As := [.int (nI k), .int 1]) (rest := [.int (nI i), .ref (L 0)]) F (k_X13_its x (nI k) 1 k 1 (by omega) (by omega) rfl rfl) (cwV 2 hts (lw_V q1256 q1258 qs49 q107 q1259) rfl rfl rfl (by decide +kernel) ⟨Nat.le_of_ble_eq_true rfl, Nat.le_of_ble_eq_true rfl⟩) hI hK (hw.recv hI hK (mf_main) rfl) rfl hl.1 rfl (Nat.le_of_ble_eq_true rfl) dX13_hasOther_22 ⟨Nat.le_of_ble_eq_true rfl, Nat.le_of_ble_eq_true rfl⟩) ?_
          refine c_r (k_V (As := [.int (nI i), .int (x.1 0 (2 + 1) k)]) (rest := []) F (k_X13_isIn x i (x.1 0 (2 + 1) k) (by omega)) (cwV 2 hts (lw_V q1252 q1254 qs48 q107 q1255) rfl rfl rfl (by decide +kernel) ⟨Nat.le_of_ble_eq_true rfl, Nat.le_of_ble_eq_true rfl⟩) hI hK (hw.recv hI hK (mf_main) rfl) rfl hl.1 rfl (Nat.le_of_ble_eq_true rfl) dX13_hasOther_25 ⟨Nat.le_of_ble_eq_true rfl, Nat.le_of_ble_eq_true rfl⟩) ?_
          refine lv_if_eq (tgt := 33) hx hb dX13_hasOther_28 (by decide) (fun c_28 => ?_) (fun c_28 => ?_)
          · skip
            refine lv_iinc (v := (nI (i + 1))) (lv' := [(2, .int (nI (i + 1))), (0, .ref (L 0)), (1, .int (nI k))]) hx hb dX13_hasOther_33 hl (k := 2) rfl (nI_1 _) (by decide) rfl (fun ls hl => ?_)
            refine lv_goto (tgt := 2) hx hb dX13_hasOther_36 (by decide) ?_
            exact ih2 (i + 1) (by omega) (fun o ho hne => by rcases Nat.lt_succ_iff_lt_or_eq.mp ho with h | h; exact hp o h hne; subst h; first | exact absurd c_14 hne | exact c_28) (by omega) (nI (i + 1)) (rfl) ls (lv_sub hl [1, 2, 0] rfl)
          · skip
            refine lv_iconst (v := 1) hx hb dX13_hasOther_31 (by decide) ?_
            exact W.zret hx hb hr (rfl) (fun t ht _ => ⟨rI (by rw [haoI, if_neg (fun q => c_28 ((wh_alone _ _ (by omega) hk).mp q i (by omega) c_14))]), ht⟩) (fun q h => by cases h) dX13_hasOther_32
  exact lp2 (_ + 1) (0) (Nat.zero_le _) (fun o h => by omega) (Nat.lt_succ_self _) 0 (rfl) ls (lv_sub hl [1, 2, 0] rfl)
theorem k_X13_hushes {l : Launch} {D : va_G} {L : Nat → Nat} {A : Nat → Prop} (x : mst) (k κ : Nat) (hk : k < 8) (hκ : κ < 7) (ek : x.1 0 (2 + 0) k = nI κ) : Met l yX13_hushes (ws_ yX13_hushes cX13_hushes 2 (some .int)) ({ frames := 1, cells := 0, slots := 0, locals := 22 } : Room) (va_Pc [.ref (L 0), .int (nI k)] (pI D (cfM D L x) A)) (rQ (.int (huI (x.1 0) κ k))) 0 0 nof := by
  refine met_I (by decide) rfl (Nat.le_of_ble_eq_true rfl) ?_
  intro p e s m below meth c ls hx hb hr hml hown hts hlocks hl hI hK
  have F : CallFix p m c cX13_hushes 2 s _ lw_all RX13 := ⟨hx, hb, hml, hown, hts⟩
  have hl : lv_has ls 2 [(0, .ref (L 0)), (1, .int (nI k))] := hl
  have hκ2 : kN (x.1 0) k = κ := by unfold kN; rw [ek, nI_clamp (by omega)]
  refine lv_aload_n hx hb dX13_hushes_0 rfl (lv_at hl 0 rfl) ?_
  refine lv_iload_n hx hb dX13_hushes_1 rfl (lv_at hl 1 rfl) ?_
  refine lv_iconst (v := 0) hx hb dX13_hushes_2 (by decide) ?_
  refine c_r (k_V (As := [.int (nI k), .int 0]) (rest := []) F (k_X13_its x (nI k) 0 k 0 (by omega) (by omega) rfl rfl) (cwV 2 hts (lw_V q1256 q1258 qs49 q107 q1259) rfl rfl rfl (by decide +kernel) ⟨Nat.le_of_ble_eq_true rfl, Nat.le_of_ble_eq_true rfl⟩) hI hK (hw.recv hI hK (mf_main) rfl) rfl hl.1 rfl (Nat.le_of_ble_eq_true rfl) dX13_hushes_3 ⟨Nat.le_of_ble_eq_true rfl, Nat.le_of_ble_eq_true rfl⟩) ?_
  by_cases c_6_1 : (x.1 0 (2 + 0) k) = 1
  · skip
    refine lv_tableIn (off := 38) (tgt := 44) hx hb dX13_hushes_6 (by rw [c_6_1]; decide) (by rw [c_6_1]; decide) (by rw [c_6_1]; rfl) (by decide) ?_
    refine lv_iconst (v := 1) hx hb dX13_hushes_44 (by decide) ?_
    exact W.iret hx hb hr (fun t ht _ => ⟨rI (by rw [← hκ2]; first | (rw [kn_v (n := 1) c_6_1 (by decide)]; first | rfl | (simp only [huI]; first | rw [if_pos c_56] | rw [if_neg c_56]; done)) | (rw [kn_v (n := 2) c_6_2 (by decide)]; first | rfl | (simp only [huI]; first | rw [if_pos c_56] | rw [if_neg c_56]; done)) | (rw [kn_v (n := 3) c_6_3 (by decide)]; first | rfl | (simp only [huI]; first | rw [if_pos c_56] | rw [if_neg c_56]; done)) | (rw [kn_v (n := 4) c_6_4 (by decide)]; first | rfl | (simp only [huI]; first | rw [if_pos c_56] | rw [if_neg c_56]; done)) | (rw [kn_v (n := 5) c_6_5 (by decide)]; first | rfl | (simp only [huI]; first | rw [if_pos c_56] | rw [if_neg c_56]; done)) | (rw [kn_v (n := 6) c_6_6 (by decide)]; first | rfl | (simp only [huI]; first | rw [if_pos c_56] | rw [if_neg c_56]; done)) | (rw [kn_d hκ ek c_6_1 c_6_2 c_6_3 c_6_4 c_6_5 c_6_6]; first | rfl | (simp only [huI]; first | rw [if_pos c_56] | rw [if_neg c_56]; done))), ht⟩) (fun q h => by cases h) dX13_hushes_45
  by_cases c_6_2 : (x.1 0 (2 + 0) k) = 2
  · skip
    refine lv_tableIn (off := 59) (tgt := 65) hx hb dX13_hushes_6 (by rw [c_6_2]; decide) (by rw [c_6_2]; decide) (by rw [c_6_2]; rfl) (by decide) ?_
    refine lv_iconst (v := 0) hx hb dX13_hushes_65 (by decide) ?_
    exact W.iret hx hb hr (fun t ht _ => ⟨rI (by rw [← hκ2]; first | (rw [kn_v (n := 1) c_6_1 (by decide)]; first | rfl | (simp only [huI]; first | rw [if_pos c_56] | rw [if_neg c_56]; done)) | (rw [kn_v (n := 2) c_6_2 (by decide)]; first | rfl | (simp only [huI]; first | rw [if_pos c_56] | rw [if_neg c_56]; done)) | (rw [kn_v (n := 3) c_6_3 (by decide)]; first | rfl | (simp only [huI]; first | rw [if_pos c_56] | rw [if_neg c_56]; done)) | (rw [kn_v (n := 4) c_6_4 (by decide)]; first | rfl | (simp only [huI]; first | rw [if_pos c_56] | rw [if_neg c_56]; done)) | (rw [kn_v (n := 5) c_6_5 (by decide)]; first | rfl | (simp only [huI]; first | rw [if_pos c_56] | rw [if_neg c_56]; done)) | (rw [kn_v (n := 6) c_6_6 (by decide)]; first | rfl | (simp only [huI]; first | rw [if_pos c_56] | rw [if_neg c_56]; done)) | (rw [kn_d hκ ek c_6_1 c_6_2 c_6_3 c_6_4 c_6_5 c_6_6]; first | rfl | (simp only [huI]; first | rw [if_pos c_56] | rw [if_neg c_56]; done))), ht⟩) (fun q h => by cases h) dX13_hushes_66
  by_cases c_6_3 : (x.1 0 (2 + 0) k) = 3
  · skip
    refine lv_tableIn (off := 38) (tgt := 44) hx hb dX13_hushes_6 (by rw [c_6_3]; decide) (by rw [c_6_3]; decide) (by rw [c_6_3]; rfl) (by decide) ?_
    refine lv_iconst (v := 1) hx hb dX13_hushes_44 (by decide) ?_
    exact W.iret hx hb hr (fun t ht _ => ⟨rI (by rw [← hκ2]; first | (rw [kn_v (n := 1) c_6_1 (by decide)]; first | rfl | (simp only [huI]; first | rw [if_pos c_56] | rw [if_neg c_56]; done)) | (rw [kn_v (n := 2) c_6_2 (by decide)]; first | rfl | (simp only [huI]; first | rw [if_pos c_56] | rw [if_neg c_56]; done)) | (rw [kn_v (n := 3) c_6_3 (by decide)]; first | rfl | (simp only [huI]; first | rw [if_pos c_56] | rw [if_neg c_56]; done)) | (rw [kn_v (n := 4) c_6_4 (by decide)]; first | rfl | (simp only [huI]; first | rw [if_pos c_56] | rw [if_neg c_56]; done)) | (rw [kn_v (n := 5) c_6_5 (by decide)]; first | rfl | (simp only [huI]; first | rw [if_pos c_56] | rw [if_neg c_56]; done)) | (rw [kn_v (n := 6) c_6_6 (by decide)]; first | rfl | (simp only [huI]; first | rw [if_pos c_56] | rw [if_neg c_56]; done)) | (rw [kn_d hκ ek c_6_1 c_6_2 c_6_3 c_6_4 c_6_5 c_6_6]; first | rfl | (simp only [huI]; first | rw [if_pos c_56] | rw [if_neg c_56]; done))), ht⟩) (fun q h => by cases h) dX13_hushes_45
  by_cases c_6_4 : (x.1 0 (2 + 0) k) = 4
  · skip
    refine lv_tableIn (off := 59) (tgt := 65) hx hb dX13_hushes_6 (by rw [c_6_4]; decide) (by rw [c_6_4]; decide) (by rw [c_6_4]; rfl) (by decide) ?_
    refine lv_iconst (v := 0) hx hb dX13_hushes_65 (by decide) ?_
    exact W.iret hx hb hr (fun t ht _ => ⟨rI (by rw [← hκ2]; first | (rw [kn_v (n := 1) c_6_1 (by decide)]; first | rfl | (simp only [huI]; first | rw [if_pos c_56] | rw [if_neg c_56]; done)) | (rw [kn_v (n := 2) c_6_2 (by decide)]; first | rfl | (simp only [huI]; first | rw [if_pos c_56] | rw [if_neg c_56]; done)) | (rw [kn_v (n := 3) c_6_3 (by decide)]; first | rfl | (simp only [huI]; first | rw [if_pos c_56] | rw [if_neg c_56]; done)) | (rw [kn_v (n := 4) c_6_4 (by decide)]; first | rfl | (simp only [huI]; first | rw [if_pos c_56] | rw [if_neg c_56]; done)) | (rw [kn_v (n := 5) c_6_5 (by decide)]; first | rfl | (simp only [huI]; first | rw [if_pos c_56] | rw [if_neg c_56]; done)) | (rw [kn_v (n := 6) c_6_6 (by decide)]; first | rfl | (simp only [huI]; first | rw [if_pos c_56] | rw [if_neg c_56]; done)) | (rw [kn_d hκ ek c_6_1 c_6_2 c_6_3 c_6_4 c_6_5 c_6_6]; first | rfl | (simp only [huI]; first | rw [if_pos c_56] | rw [if_neg c_56]; done))), ht⟩) (fun q h => by cases h) dX13_hushes_66
  by_cases c_6_5 : (x.1 0 (2 + 0) k) = 5
  · skip
    refine lv_tableIn (off := 42) (tgt := 48) hx hb dX13_hushes_6 (by rw [c_6_5]; decide) (by rw [c_6_5]; decide) (by rw [c_6_5]; rfl) (by decide) ?_
    refine lv_aload_n hx hb dX13_hushes_48 rfl (lv_at hl 0 rfl) ?_
    refine lv_iload_n hx hb dX13_hushes_49 rfl (lv_at hl 1 rfl) ?_
    refine lv_iconst (v := 4) hx hb dX13_hushes_50 (by decide) ?_
    refine c_r (k_V (As := [.int (nI k), .int 4]) (rest := []) F (k_X13_its x (nI k) 4 k 4 (by omega) (by omega) rfl rfl) (cwV 2 hts (lw_V q1256 q1258 qs49 q107 q1259) rfl rfl rfl (by decide +kernel) ⟨Nat.le_of_ble_eq_true rfl, Nat.le_of_ble_eq_true rfl⟩) hI hK (hw.recv hI hK (mf_main) rfl) rfl hl.1 rfl (Nat.le_of_ble_eq_true rfl) dX13_hushes_51 ⟨Nat.le_of_ble_eq_true rfl, Nat.le_of_ble_eq_true rfl⟩) ?_
    refine lv_bipush (v := 100) hx hb dX13_hushes_54 (by decide) ?_
    refine lv_icmp_lt (tgt := 63) hx hb dX13_hushes_56 (by decide) (fun c_56 => ?_) (fun c_56 => ?_)
    · skip
      refine lv_iconst (v := 0) hx hb dX13_hushes_63 (by decide) ?_
      exact W.iret hx hb hr (fun t ht _ => ⟨rI (by rw [← hκ2]; first | (rw [kn_v (n := 1) c_6_1 (by decide)]; first | rfl | (simp only [huI]; first | rw [if_pos c_56] | rw [if_neg c_56]; done)) | (rw [kn_v (n := 2) c_6_2 (by decide)]; first | rfl | (simp only [huI]; first | rw [if_pos c_56] | rw [if_neg c_56]; done)) | (rw [kn_v (n := 3) c_6_3 (by decide)]; first | rfl | (simp only [huI]; first | rw [if_pos c_56] | rw [if_neg c_56]; done)) | (rw [kn_v (n := 4) c_6_4 (by decide)]; first | rfl | (simp only [huI]; first | rw [if_pos c_56] | rw [if_neg c_56]; done)) | (rw [kn_v (n := 5) c_6_5 (by decide)]; first | rfl | (simp only [huI]; first | rw [if_pos c_56] | rw [if_neg c_56]; done)) | (rw [kn_v (n := 6) c_6_6 (by decide)]; first | rfl | (simp only [huI]; first | rw [if_pos c_56] | rw [if_neg c_56]; done)) | (rw [kn_d hκ ek c_6_1 c_6_2 c_6_3 c_6_4 c_6_5 c_6_6]; first | rfl | (simp only [huI]; first | rw [if_pos c_56] | rw [if_neg c_56]; done))), ht⟩) (fun q h => by cases h) dX13_hushes_64
    · skip
      refine lv_iconst (v := 1) hx hb dX13_hushes_59 (by decide) ?_
      refine lv_goto (tgt := 64) hx hb dX13_hushes_60 (by decide) ?_
      exact W.iret hx hb hr (fun t ht _ => ⟨rI (by rw [← hκ2]; first | (rw [kn_v (n := 1) c_6_1 (by decide)]; first | rfl | (simp only [huI]; first | rw [if_pos c_56] | rw [if_neg c_56]; done)) | (rw [kn_v (n := 2) c_6_2 (by decide)]; first | rfl | (simp only [huI]; first | rw [if_pos c_56] | rw [if_neg c_56]; done)) | (rw [kn_v (n := 3) c_6_3 (by decide)]; first | rfl | (simp only [huI]; first | rw [if_pos c_56] | rw [if_neg c_56]; done)) | (rw [kn_v (n := 4) c_6_4 (by decide)]; first | rfl | (simp only [huI]; first | rw [if_pos c_56] | rw [if_neg c_56]; done)) | (rw [kn_v (n := 5) c_6_5 (by decide)]; first | rfl | (simp only [huI]; first | rw [if_pos c_56] | rw [if_neg c_56]; done)) | (rw [kn_v (n := 6) c_6_6 (by decide)]; first | rfl | (simp only [huI]; first | rw [if_pos c_56] | rw [if_neg c_56]; done)) | (rw [kn_d hκ ek c_6_1 c_6_2 c_6_3 c_6_4 c_6_5 c_6_6]; first | rfl | (simp only [huI]; first | rw [if_pos c_56] | rw [if_neg c_56]; done))), ht⟩) (fun q h => by cases h) dX13_hushes_64
  by_cases c_6_6 : (x.1 0 (2 + 0) k) = 6
  · skip
    refine lv_tableIn (off := 40) (tgt := 46) hx hb dX13_hushes_6 (by rw [c_6_6]; decide) (by rw [c_6_6]; decide) (by rw [c_6_6]; rfl) (by decide) ?_
    refine lv_iconst (v := 2) hx hb dX13_hushes_46 (by decide) ?_
    exact W.iret hx hb hr (fun t ht _ => ⟨rI (by rw [← hκ2]; first | (rw [kn_v (n := 1) c_6_1 (by decide)]; first | rfl | (simp only [huI]; first | rw [if_pos c_56] | rw [if_neg c_56]; done)) | (rw [kn_v (n := 2) c_6_2 (by decide)]; first | rfl | (simp only [huI]; first | rw [if_pos c_56] | rw [if_neg c_56]; done)) | (rw [kn_v (n := 3) c_6_3 (by decide)]; first | rfl | (simp only [huI]; first | rw [if_pos c_56] | rw [if_neg c_56]; done)) | (rw [kn_v (n := 4) c_6_4 (by decide)]; first | rfl | (simp only [huI]; first | rw [if_pos c_56] | rw [if_neg c_56]; done)) | (rw [kn_v (n := 5) c_6_5 (by decide)]; first | rfl | (simp only [huI]; first | rw [if_pos c_56] | rw [if_neg c_56]; done)) | (rw [kn_v (n := 6) c_6_6 (by decide)]; first | rfl | (simp only [huI]; first | rw [if_pos c_56] | rw [if_neg c_56]; done)) | (rw [kn_d hκ ek c_6_1 c_6_2 c_6_3 c_6_4 c_6_5 c_6_6]; first | rfl | (simp only [huI]; first | rw [if_pos c_56] | rw [if_neg c_56]; done))), ht⟩) (fun q h => by cases h) dX13_hushes_47
  refine lv_tableOut (tgt := 65) hx hb dX13_hushes_6 (by have n0 := lv_neT c_6_1 (a := 1) (by decide); have n1 := lv_neT c_6_2 (a := 2) (by decide); have n2 := lv_neT c_6_3 (a := 3) (by decide); have n3 := lv_neT c_6_4 (a := 4) (by decide); have n4 := lv_neT c_6_5 (a := 5) (by decide); have n5 := lv_neT c_6_6 (a := 6) (by decide); omega) (by decide) ?_
  refine lv_iconst (v := 0) hx hb dX13_hushes_65 (by decide) ?_
  exact W.iret hx hb hr (fun t ht _ => ⟨rI (by rw [← hκ2]; first | (rw [kn_v (n := 1) c_6_1 (by decide)]; first | rfl | (simp only [huI]; first | rw [if_pos c_56] | rw [if_neg c_56]; done)) | (rw [kn_v (n := 2) c_6_2 (by decide)]; first | rfl | (simp only [huI]; first | rw [if_pos c_56] | rw [if_neg c_56]; done)) | (rw [kn_v (n := 3) c_6_3 (by decide)]; first | rfl | (simp only [huI]; first | rw [if_pos c_56] | rw [if_neg c_56]; done)) | (rw [kn_v (n := 4) c_6_4 (by decide)]; first | rfl | (simp only [huI]; first | rw [if_pos c_56] | rw [if_neg c_56]; done)) | (rw [kn_v (n := 5) c_6_5 (by decide)]; first | rfl | (simp only [huI]; first | rw [if_pos c_56] | rw [if_neg c_56]; done)) | (rw [kn_v (n := 6) c_6_6 (by decide)]; first | rfl | (simp only [huI]; first | rw [if_pos c_56] | rw [if_neg c_56]; done)) | (rw [kn_d hκ ek c_6_1 c_6_2 c_6_3 c_6_4 c_6_5 c_6_6]; first | rfl | (simp only [huI]; first | rw [if_pos c_56] | rw [if_neg c_56]; done))), ht⟩) (fun q h => by cases h) dX13_hushes_66
theorem k_X13_stays {l : Launch} {D : va_G} {L : Nat → Nat} {A : Nat → Prop} (x : mst) (k κ : Nat) (hk : k < 8) (hκ : κ < 7) (ek : x.1 0 (2 + 0) k = nI κ) : Met l yX13_stays (ws_ yX13_stays cX13_stays 2 (some .int)) ({ frames := 1, cells := 0, slots := 0, locals := 22 } : Room) (va_Pc [.ref (L 0), .int (nI k)] (pI D (cfM D L x) A)) (rQ (.int (styI κ))) 0 0 nof := by
  refine met_I (by decide) rfl (Nat.le_of_ble_eq_true rfl) ?_
  intro p e s m below meth c ls hx hb hr hml hown hts hlocks hl hI hK
  have F : CallFix p m c cX13_stays 2 s _ lw_all RX13 := ⟨hx, hb, hml, hown, hts⟩
  have hl : lv_has ls 2 [(0, .ref (L 0)), (1, .int (nI k))] := hl
  have hκ2 : kN (x.1 0) k = κ := by unfold kN; rw [ek, nI_clamp (by omega)]
  refine lv_aload_n hx hb dX13_stays_0 rfl (lv_at hl 0 rfl) ?_
  refine lv_iload_n hx hb dX13_stays_1 rfl (lv_at hl 1 rfl) ?_
  refine lv_iconst (v := 0) hx hb dX13_stays_2 (by decide) ?_
  refine c_r (k_V (As := [.int (nI k), .int 0]) (rest := []) F (k_X13_its x (nI k) 0 k 0 (by omega) (by omega) rfl rfl) (cwV 2 hts (lw_V q1256 q1258 qs49 q107 q1259) rfl rfl rfl (by decide +kernel) ⟨Nat.le_of_ble_eq_true rfl, Nat.le_of_ble_eq_true rfl⟩) hI hK (hw.recv hI hK (mf_main) rfl) rfl hl.1 rfl (Nat.le_of_ble_eq_true rfl) dX13_stays_3 ⟨Nat.le_of_ble_eq_true rfl, Nat.le_of_ble_eq_true rfl⟩) ?_
  by_cases c_6_1 : (x.1 0 (2 + 0) k) = 1
  · skip
    refine lv_tableIn (off := 38) (tgt := 44) hx hb dX13_stays_6 (by rw [c_6_1]; decide) (by rw [c_6_1]; decide) (by rw [c_6_1]; rfl) (by decide) ?_
    refine lv_iconst (v := 5) hx hb dX13_stays_44 (by decide) ?_
    exact W.iret hx hb hr (fun t ht _ => ⟨rI (by rw [← hκ2]; first | (rw [kn_v (n := 1) c_6_1 (by decide)]; rfl) | (rw [kn_v (n := 2) c_6_2 (by decide)]; rfl) | (rw [kn_v (n := 3) c_6_3 (by decide)]; rfl) | (rw [kn_v (n := 4) c_6_4 (by decide)]; rfl) | (rw [kn_v (n := 5) c_6_5 (by decide)]; rfl) | (rw [kn_v (n := 6) c_6_6 (by decide)]; rfl) | (rw [kn_d hκ ek c_6_1 c_6_2 c_6_3 c_6_4 c_6_5 c_6_6]; rfl)), ht⟩) (fun q h => by cases h) dX13_stays_45
  by_cases c_6_2 : (x.1 0 (2 + 0) k) = 2
  · skip
    refine lv_tableIn (off := 40) (tgt := 46) hx hb dX13_stays_6 (by rw [c_6_2]; decide) (by rw [c_6_2]; decide) (by rw [c_6_2]; rfl) (by decide) ?_
    refine lv_bipush (v := 14) hx hb dX13_stays_46 (by decide) ?_
    exact W.iret hx hb hr (fun t ht _ => ⟨rI (by rw [← hκ2]; first | (rw [kn_v (n := 1) c_6_1 (by decide)]; rfl) | (rw [kn_v (n := 2) c_6_2 (by decide)]; rfl) | (rw [kn_v (n := 3) c_6_3 (by decide)]; rfl) | (rw [kn_v (n := 4) c_6_4 (by decide)]; rfl) | (rw [kn_v (n := 5) c_6_5 (by decide)]; rfl) | (rw [kn_v (n := 6) c_6_6 (by decide)]; rfl) | (rw [kn_d hκ ek c_6_1 c_6_2 c_6_3 c_6_4 c_6_5 c_6_6]; rfl)), ht⟩) (fun q h => by cases h) dX13_stays_48
  by_cases c_6_3 : (x.1 0 (2 + 0) k) = 3
  · skip
    refine lv_tableIn (off := 40) (tgt := 46) hx hb dX13_stays_6 (by rw [c_6_3]; decide) (by rw [c_6_3]; decide) (by rw [c_6_3]; rfl) (by decide) ?_
    refine lv_bipush (v := 14) hx hb dX13_stays_46 (by decide) ?_
    exact W.iret hx hb hr (fun t ht _ => ⟨rI (by rw [← hκ2]; first | (rw [kn_v (n := 1) c_6_1 (by decide)]; rfl) | (rw [kn_v (n := 2) c_6_2 (by decide)]; rfl) | (rw [kn_v (n := 3) c_6_3 (by decide)]; rfl) | (rw [kn_v (n := 4) c_6_4 (by decide)]; rfl) | (rw [kn_v (n := 5) c_6_5 (by decide)]; rfl) | (rw [kn_v (n := 6) c_6_6 (by decide)]; rfl) | (rw [kn_d hκ ek c_6_1 c_6_2 c_6_3 c_6_4 c_6_5 c_6_6]; rfl)), ht⟩) (fun q h => by cases h) dX13_stays_48
  by_cases c_6_4 : (x.1 0 (2 + 0) k) = 4
  · skip
    refine lv_tableIn (off := 43) (tgt := 49) hx hb dX13_stays_6 (by rw [c_6_4]; decide) (by rw [c_6_4]; decide) (by rw [c_6_4]; rfl) (by decide) ?_
    refine lv_iconst (v := 0) hx hb dX13_stays_49 (by decide) ?_
    exact W.iret hx hb hr (fun t ht _ => ⟨rI (by rw [← hκ2]; first | (rw [kn_v (n := 1) c_6_1 (by decide)]; rfl) | (rw [kn_v (n := 2) c_6_2 (by decide)]; rfl) | (rw [kn_v (n := 3) c_6_3 (by decide)]; rfl) | (rw [kn_v (n := 4) c_6_4 (by decide)]; rfl) | (rw [kn_v (n := 5) c_6_5 (by decide)]; rfl) | (rw [kn_v (n := 6) c_6_6 (by decide)]; rfl) | (rw [kn_d hκ ek c_6_1 c_6_2 c_6_3 c_6_4 c_6_5 c_6_6]; rfl)), ht⟩) (fun q h => by cases h) dX13_stays_50
  by_cases c_6_5 : (x.1 0 (2 + 0) k) = 5
  · skip
    refine lv_tableIn (off := 43) (tgt := 49) hx hb dX13_stays_6 (by rw [c_6_5]; decide) (by rw [c_6_5]; decide) (by rw [c_6_5]; rfl) (by decide) ?_
    refine lv_iconst (v := 0) hx hb dX13_stays_49 (by decide) ?_
    exact W.iret hx hb hr (fun t ht _ => ⟨rI (by rw [← hκ2]; first | (rw [kn_v (n := 1) c_6_1 (by decide)]; rfl) | (rw [kn_v (n := 2) c_6_2 (by decide)]; rfl) | (rw [kn_v (n := 3) c_6_3 (by decide)]; rfl) | (rw [kn_v (n := 4) c_6_4 (by decide)]; rfl) | (rw [kn_v (n := 5) c_6_5 (by decide)]; rfl) | (rw [kn_v (n := 6) c_6_6 (by decide)]; rfl) | (rw [kn_d hκ ek c_6_1 c_6_2 c_6_3 c_6_4 c_6_5 c_6_6]; rfl)), ht⟩) (fun q h => by cases h) dX13_stays_50
  by_cases c_6_6 : (x.1 0 (2 + 0) k) = 6
  · skip
    refine lv_tableIn (off := 38) (tgt := 44) hx hb dX13_stays_6 (by rw [c_6_6]; decide) (by rw [c_6_6]; decide) (by rw [c_6_6]; rfl) (by decide) ?_
    refine lv_iconst (v := 5) hx hb dX13_stays_44 (by decide) ?_
    exact W.iret hx hb hr (fun t ht _ => ⟨rI (by rw [← hκ2]; first | (rw [kn_v (n := 1) c_6_1 (by decide)]; rfl) | (rw [kn_v (n := 2) c_6_2 (by decide)]; rfl) | (rw [kn_v (n := 3) c_6_3 (by decide)]; rfl) | (rw [kn_v (n := 4) c_6_4 (by decide)]; rfl) | (rw [kn_v (n := 5) c_6_5 (by decide)]; rfl) | (rw [kn_v (n := 6) c_6_6 (by decide)]; rfl) | (rw [kn_d hκ ek c_6_1 c_6_2 c_6_3 c_6_4 c_6_5 c_6_6]; rfl)), ht⟩) (fun q h => by cases h) dX13_stays_45
  refine lv_tableOut (tgt := 51) hx hb dX13_stays_6 (by have n0 := lv_neT c_6_1 (a := 1) (by decide); have n1 := lv_neT c_6_2 (a := 2) (by decide); have n2 := lv_neT c_6_3 (a := 3) (by decide); have n3 := lv_neT c_6_4 (a := 4) (by decide); have n4 := lv_neT c_6_5 (a := 5) (by decide); have n5 := lv_neT c_6_6 (a := 6) (by decide); omega) (by decide) ?_
  refine lv_bipush (v := 7) hx hb dX13_stays_51 (by decide) ?_
  exact W.iret hx hb hr (fun t ht _ => ⟨rI (by rw [← hκ2]; first | (rw [kn_v (n := 1) c_6_1 (by decide)]; rfl) | (rw [kn_v (n := 2) c_6_2 (by decide)]; rfl) | (rw [kn_v (n := 3) c_6_3 (by decide)]; rfl) | (rw [kn_v (n := 4) c_6_4 (by decide)]; rfl) | (rw [kn_v (n := 5) c_6_5 (by decide)]; rfl) | (rw [kn_v (n := 6) c_6_6 (by decide)]; rfl) | (rw [kn_d hκ ek c_6_1 c_6_2 c_6_3 c_6_4 c_6_5 c_6_6]; rfl)), ht⟩) (fun q h => by cases h) dX13_stays_53
theorem k_X13_keeps {l : Launch} {D : va_G} {L : Nat → Nat} {A : Nat → Prop} (x : mst) (k κ : Nat) (hk : k < 8) (hκ : κ < 7) (ek : x.1 0 (2 + 0) k = nI κ) : Met l yX13_keeps (ws_ yX13_keeps cX13_keeps 2 (some .int)) ({ frames := 1, cells := 0, slots := 0, locals := 22 } : Room) (va_Pc [.ref (L 0), .int (nI k)] (pI D (cfM D L x) A)) (rQ (.int (kpI κ))) 0 0 nof := by
  refine met_I (by decide) rfl (Nat.le_of_ble_eq_true rfl) ?_
  intro p e s m below meth c ls hx hb hr hml hown hts hlocks hl hI hK
  have F : CallFix p m c cX13_keeps 2 s _ lw_all RX13 := ⟨hx, hb, hml, hown, hts⟩
  have hl : lv_has ls 2 [(0, .ref (L 0)), (1, .int (nI k))] := hl
  have hκ2 : kN (x.1 0) k = κ := by unfold kN; rw [ek, nI_clamp (by omega)]
  refine lv_aload_n hx hb dX13_keeps_0 rfl (lv_at hl 0 rfl) ?_
  refine lv_iload_n hx hb dX13_keeps_1 rfl (lv_at hl 1 rfl) ?_
  refine lv_iconst (v := 0) hx hb dX13_keeps_2 (by decide) ?_
  refine c_r (k_V (As := [.int (nI k), .int 0]) (rest := []) F (k_X13_its x (nI k) 0 k 0 (by omega) (by omega) rfl rfl) (cwV 2 hts (lw_V q1256 q1258 qs49 q107 q1259) rfl rfl rfl (by decide +kernel) ⟨Nat.le_of_ble_eq_true rfl, Nat.le_of_ble_eq_true rfl⟩) hI hK (hw.recv hI hK (mf_main) rfl) rfl hl.1 rfl (Nat.le_of_ble_eq_true rfl) dX13_keeps_3 ⟨Nat.le_of_ble_eq_true rfl, Nat.le_of_ble_eq_true rfl⟩) ?_
  by_cases c_6_1 : (x.1 0 (2 + 0) k) = 1
  · skip
    refine lv_tableIn (off := 38) (tgt := 44) hx hb dX13_keeps_6 (by rw [c_6_1]; decide) (by rw [c_6_1]; decide) (by rw [c_6_1]; rfl) (by decide) ?_
    refine lv_bipush (v := 8) hx hb dX13_keeps_44 (by decide) ?_
    exact W.iret hx hb hr (fun t ht _ => ⟨rI (by rw [← hκ2]; first | (rw [kn_v (n := 1) c_6_1 (by decide)]; rfl) | (rw [kn_v (n := 2) c_6_2 (by decide)]; rfl) | (rw [kn_v (n := 3) c_6_3 (by decide)]; rfl) | (rw [kn_v (n := 4) c_6_4 (by decide)]; rfl) | (rw [kn_v (n := 5) c_6_5 (by decide)]; rfl) | (rw [kn_v (n := 6) c_6_6 (by decide)]; rfl) | (rw [kn_d hκ ek c_6_1 c_6_2 c_6_3 c_6_4 c_6_5 c_6_6]; rfl)), ht⟩) (fun q h => by cases h) dX13_keeps_46
  by_cases c_6_2 : (x.1 0 (2 + 0) k) = 2
  · skip
    refine lv_tableIn (off := 44) (tgt := 50) hx hb dX13_keeps_6 (by rw [c_6_2]; decide) (by rw [c_6_2]; decide) (by rw [c_6_2]; rfl) (by decide) ?_
    refine lv_iconst (v := 3) hx hb dX13_keeps_50 (by decide) ?_
    exact W.iret hx hb hr (fun t ht _ => ⟨rI (by rw [← hκ2]; first | (rw [kn_v (n := 1) c_6_1 (by decide)]; rfl) | (rw [kn_v (n := 2) c_6_2 (by decide)]; rfl) | (rw [kn_v (n := 3) c_6_3 (by decide)]; rfl) | (rw [kn_v (n := 4) c_6_4 (by decide)]; rfl) | (rw [kn_v (n := 5) c_6_5 (by decide)]; rfl) | (rw [kn_v (n := 6) c_6_6 (by decide)]; rfl) | (rw [kn_d hκ ek c_6_1 c_6_2 c_6_3 c_6_4 c_6_5 c_6_6]; rfl)), ht⟩) (fun q h => by cases h) dX13_keeps_51
  by_cases c_6_3 : (x.1 0 (2 + 0) k) = 3
  · skip
    refine lv_tableIn (off := 44) (tgt := 50) hx hb dX13_keeps_6 (by rw [c_6_3]; decide) (by rw [c_6_3]; decide) (by rw [c_6_3]; rfl) (by decide) ?_
    refine lv_iconst (v := 3) hx hb dX13_keeps_50 (by decide) ?_
    exact W.iret hx hb hr (fun t ht _ => ⟨rI (by rw [← hκ2]; first | (rw [kn_v (n := 1) c_6_1 (by decide)]; rfl) | (rw [kn_v (n := 2) c_6_2 (by decide)]; rfl) | (rw [kn_v (n := 3) c_6_3 (by decide)]; rfl) | (rw [kn_v (n := 4) c_6_4 (by decide)]; rfl) | (rw [kn_v (n := 5) c_6_5 (by decide)]; rfl) | (rw [kn_v (n := 6) c_6_6 (by decide)]; rfl) | (rw [kn_d hκ ek c_6_1 c_6_2 c_6_3 c_6_4 c_6_5 c_6_6]; rfl)), ht⟩) (fun q h => by cases h) dX13_keeps_51
  by_cases c_6_4 : (x.1 0 (2 + 0) k) = 4
  · skip
    refine lv_tableIn (off := 44) (tgt := 50) hx hb dX13_keeps_6 (by rw [c_6_4]; decide) (by rw [c_6_4]; decide) (by rw [c_6_4]; rfl) (by decide) ?_
    refine lv_iconst (v := 3) hx hb dX13_keeps_50 (by decide) ?_
    exact W.iret hx hb hr (fun t ht _ => ⟨rI (by rw [← hκ2]; first | (rw [kn_v (n := 1) c_6_1 (by decide)]; rfl) | (rw [kn_v (n := 2) c_6_2 (by decide)]; rfl) | (rw [kn_v (n := 3) c_6_3 (by decide)]; rfl) | (rw [kn_v (n := 4) c_6_4 (by decide)]; rfl) | (rw [kn_v (n := 5) c_6_5 (by decide)]; rfl) | (rw [kn_v (n := 6) c_6_6 (by decide)]; rfl) | (rw [kn_d hκ ek c_6_1 c_6_2 c_6_3 c_6_4 c_6_5 c_6_6]; rfl)), ht⟩) (fun q h => by cases h) dX13_keeps_51
  by_cases c_6_5 : (x.1 0 (2 + 0) k) = 5
  · skip
    refine lv_tableIn (off := 46) (tgt := 52) hx hb dX13_keeps_6 (by rw [c_6_5]; decide) (by rw [c_6_5]; decide) (by rw [c_6_5]; rfl) (by decide) ?_
    refine lv_bipush (v := 16) hx hb dX13_keeps_52 (by decide) ?_
    exact W.iret hx hb hr (fun t ht _ => ⟨rI (by rw [← hκ2]; first | (rw [kn_v (n := 1) c_6_1 (by decide)]; rfl) | (rw [kn_v (n := 2) c_6_2 (by decide)]; rfl) | (rw [kn_v (n := 3) c_6_3 (by decide)]; rfl) | (rw [kn_v (n := 4) c_6_4 (by decide)]; rfl) | (rw [kn_v (n := 5) c_6_5 (by decide)]; rfl) | (rw [kn_v (n := 6) c_6_6 (by decide)]; rfl) | (rw [kn_d hκ ek c_6_1 c_6_2 c_6_3 c_6_4 c_6_5 c_6_6]; rfl)), ht⟩) (fun q h => by cases h) dX13_keeps_54
  by_cases c_6_6 : (x.1 0 (2 + 0) k) = 6
  · skip
    refine lv_tableIn (off := 41) (tgt := 47) hx hb dX13_keeps_6 (by rw [c_6_6]; decide) (by rw [c_6_6]; decide) (by rw [c_6_6]; rfl) (by decide) ?_
    refine lv_bipush (v := 10) hx hb dX13_keeps_47 (by decide) ?_
    exact W.iret hx hb hr (fun t ht _ => ⟨rI (by rw [← hκ2]; first | (rw [kn_v (n := 1) c_6_1 (by decide)]; rfl) | (rw [kn_v (n := 2) c_6_2 (by decide)]; rfl) | (rw [kn_v (n := 3) c_6_3 (by decide)]; rfl) | (rw [kn_v (n := 4) c_6_4 (by decide)]; rfl) | (rw [kn_v (n := 5) c_6_5 (by decide)]; rfl) | (rw [kn_v (n := 6) c_6_6 (by decide)]; rfl) | (rw [kn_d hκ ek c_6_1 c_6_2 c_6_3 c_6_4 c_6_5 c_6_6]; rfl)), ht⟩) (fun q h => by cases h) dX13_keeps_49
  refine lv_tableOut (tgt := 55) hx hb dX13_keeps_6 (by have n0 := lv_neT c_6_1 (a := 1) (by decide); have n1 := lv_neT c_6_2 (a := 2) (by decide); have n2 := lv_neT c_6_3 (a := 3) (by decide); have n3 := lv_neT c_6_4 (a := 4) (by decide); have n4 := lv_neT c_6_5 (a := 5) (by decide); have n5 := lv_neT c_6_6 (a := 6) (by decide); omega) (by decide) ?_
  refine lv_bipush (v := 6) hx hb dX13_keeps_55 (by decide) ?_
  exact W.iret hx hb hr (fun t ht _ => ⟨rI (by rw [← hκ2]; first | (rw [kn_v (n := 1) c_6_1 (by decide)]; rfl) | (rw [kn_v (n := 2) c_6_2 (by decide)]; rfl) | (rw [kn_v (n := 3) c_6_3 (by decide)]; rfl) | (rw [kn_v (n := 4) c_6_4 (by decide)]; rfl) | (rw [kn_v (n := 5) c_6_5 (by decide)]; rfl) | (rw [kn_v (n := 6) c_6_6 (by decide)]; rfl) | (rw [kn_d hκ ek c_6_1 c_6_2 c_6_3 c_6_4 c_6_5 c_6_6]; rfl)), ht⟩) (fun q h => by cases h) dX13_keeps_57
theorem k_X13_needs {l : Launch} {D : va_G} {L : Nat → Nat} {A : Nat → Prop} (x : mst) (hO : wOk (x.1 0)) (k : Nat) (hk : k < 8) : Met l yX13_needs (ws_ yX13_needs cX13_needs 4 (some .int)) ({ frames := 3, cells := 0, slots := 0, locals := 66 } : Room) (va_Pc [.ref (L 0), .int (nI k)] (pI D (cfM D L x) A)) (rQ (.int (ndI (x.1 0) (kN (x.1 0) k) k))) 0 0 nof := by
  refine met_I (by decide) rfl (Nat.le_of_ble_eq_true rfl) ?_
  intro p e s m below meth c ls hx hb hr hml hown hts hlocks hl hI hK
  have F : CallFix p m c cX13_needs 4 s _ lw_all RX13 := ⟨hx, hb, hml, hown, hts⟩
  have hl : lv_has ls 4 [(0, .ref (L 0)), (1, .int (nI k))] := hl
  have hκ := (hO.k hk).2
  have ek := (hO.k hk).1
  have h10 := (hO.2.1 k hk).2.2.1
  refine lv_bipush (v := 10) hx hb dX13_needs_0 (by decide) ?_
  refine lv_aload_n hx hb dX13_needs_2 rfl (lv_at hl 0 rfl) ?_
  refine lv_iload_n hx hb dX13_needs_3 rfl (lv_at hl 1 rfl) ?_
  refine lv_iconst (v := 2) hx hb dX13_needs_4 (by decide) ?_
  refine c_r (k_V (As := [.int (nI k), .int 2]) (rest := [.int 10]) F (k_X13_its x (nI k) 2 k 2 (by omega) (by omega) rfl rfl) (cwV 2 hts (lw_V q1256 q1258 qs49 q107 q1259) rfl rfl rfl (by decide +kernel) ⟨Nat.le_of_ble_eq_true rfl, Nat.le_of_ble_eq_true rfl⟩) hI hK (hw.recv hI hK (mf_main) rfl) rfl hl.1 rfl (Nat.le_of_ble_eq_true rfl) dX13_needs_5 ⟨Nat.le_of_ble_eq_true rfl, Nat.le_of_ble_eq_true rfl⟩) ?_
  refine lv_isub hx hb dX13_needs_8 ?_
  refine lv_istore_n (lv' := [(2, .int ((10 : Int32) - (x.1 0 (2 + 2) k))), (0, .ref (L 0)), (1, .int (nI k))]) hx hb dX13_needs_9 rfl hl (by decide) rfl (fun ls hl => ?_)
  refine lv_iload_n hx hb dX13_needs_10 rfl (lv_at hl 0 rfl) ?_
  refine lv_iconst (v := 2) hx hb dX13_needs_11 (by decide) ?_
  refine lv_isub hx hb dX13_needs_12 ?_
  refine lv_iconst (v := 0) hx hb dX13_needs_13 (by decide) ?_
  refine lv_bipush (v := 10) hx hb dX13_needs_14 (by decide) ?_
  refine c_r (k_S (As := [.int (((10 : Int32) - (x.1 0 (2 + 2) k)) - (2 : Int32)), .int 0, .int 10]) (rest := []) F (k_X13_held (((10 : Int32) - (x.1 0 (2 + 2) k)) - (2 : Int32)) 0 10) (va_cwS 3 hts (lw_S q1298 q1299 q107 q1300) rfl rfl rfl (by decide +kernel) ⟨Nat.le_of_ble_eq_true rfl, Nat.le_of_ble_eq_true rfl⟩) rfl hl.1 rfl (Nat.le_of_ble_eq_true rfl) dX13_needs_16 ⟨Nat.le_of_ble_eq_true rfl, Nat.le_of_ble_eq_true rfl⟩) ?_
  refine lv_istore_n (lv' := [(3, .int (hlI (((10 : Int32) - (x.1 0 (2 + 2) k)) - (2 : Int32)) 0 10)), (2, .int ((10 : Int32) - (x.1 0 (2 + 2) k))), (0, .ref (L 0)), (1, .int (nI k))]) hx hb dX13_needs_19 rfl hl (by decide) rfl (fun ls hl => ?_)
  refine lv_aload_n hx hb dX13_needs_20 rfl (lv_at hl 2 rfl) ?_
  refine lv_iload_n hx hb dX13_needs_21 rfl (lv_at hl 3 rfl) ?_
  refine lv_iconst (v := 0) hx hb dX13_needs_22 (by decide) ?_
  refine c_r (k_V (As := [.int (nI k), .int 0]) (rest := []) F (k_X13_its x (nI k) 0 k 0 (by omega) (by omega) rfl rfl) (cwV 2 hts (lw_V q1256 q1258 qs49 q107 q1259) rfl rfl rfl (by decide +kernel) ⟨Nat.le_of_ble_eq_true rfl, Nat.le_of_ble_eq_true rfl⟩) hI hK (hw.recv hI hK (mf_main) rfl) rfl hl.1 rfl (Nat.le_of_ble_eq_true rfl) dX13_needs_23 ⟨Nat.le_of_ble_eq_true rfl, Nat.le_of_ble_eq_true rfl⟩) ?_
  by_cases c_26_1 : (x.1 0 (2 + 0) k) = 1
  · skip
    refine lv_tableIn (off := 38) (tgt := 64) hx hb dX13_needs_26 (by rw [c_26_1]; decide) (by rw [c_26_1]; decide) (by rw [c_26_1]; rfl) (by decide) ?_
    refine lv_iload_n hx hb dX13_needs_64 rfl (lv_at hl 0 rfl) ?_
    exact W.iret hx hb hr (fun t ht _ => ⟨rI (by rw [kn_v (n := 1) c_26_1 (by decide)]; exact hl_kd h10), ht⟩) (fun q h => by cases h) dX13_needs_65
  by_cases c_26_2 : (x.1 0 (2 + 0) k) = 2
  · skip
    refine lv_tableIn (off := 40) (tgt := 66) hx hb dX13_needs_26 (by rw [c_26_2]; decide) (by rw [c_26_2]; decide) (by rw [c_26_2]; rfl) (by decide) ?_
    refine lv_iload_n hx hb dX13_needs_66 rfl (lv_at hl 1 rfl) ?_
    refine lv_iconst (v := 3) hx hb dX13_needs_67 (by decide) ?_
    refine lv_iadd hx hb dX13_needs_68 ?_
    exact W.iret hx hb hr (fun t ht _ => ⟨rI (by rw [kn_v (n := 2) c_26_2 (by decide)]; rfl), ht⟩) (fun q h => by cases h) dX13_needs_69
  by_cases c_26_3 : (x.1 0 (2 + 0) k) = 3
  · skip
    refine lv_tableIn (off := 44) (tgt := 70) hx hb dX13_needs_26 (by rw [c_26_3]; decide) (by rw [c_26_3]; decide) (by rw [c_26_3]; rfl) (by decide) ?_
    refine lv_iload_n hx hb dX13_needs_70 rfl (lv_at hl 1 rfl) ?_
    refine lv_iconst (v := 1) hx hb dX13_needs_71 (by decide) ?_
    refine lv_isub hx hb dX13_needs_72 ?_
    refine lv_iconst (v := 0) hx hb dX13_needs_73 (by decide) ?_
    refine lv_bipush (v := 10) hx hb dX13_needs_74 (by decide) ?_
    refine c_r (k_S (As := [.int (((10 : Int32) - (x.1 0 (2 + 2) k)) - (1 : Int32)), .int 0, .int 10]) (rest := []) F (k_X13_held (((10 : Int32) - (x.1 0 (2 + 2) k)) - (1 : Int32)) 0 10) (va_cwS 3 hts (lw_S q1298 q1299 q107 q1300) rfl rfl rfl (by decide +kernel) ⟨Nat.le_of_ble_eq_true rfl, Nat.le_of_ble_eq_true rfl⟩) rfl hl.1 rfl (Nat.le_of_ble_eq_true rfl) dX13_needs_76 ⟨Nat.le_of_ble_eq_true rfl, Nat.le_of_ble_eq_true rfl⟩) ?_
    exact W.iret hx hb hr (fun t ht _ => ⟨rI (by rw [kn_v (n := 3) c_26_3 (by decide)]; exact hl_ly h10), ht⟩) (fun q h => by cases h) dX13_needs_79
  by_cases c_26_4 : (x.1 0 (2 + 0) k) = 4
  · skip
    refine lv_tableIn (off := 54) (tgt := 80) hx hb dX13_needs_26 (by rw [c_26_4]; decide) (by rw [c_26_4]; decide) (by rw [c_26_4]; rfl) (by decide) ?_
    refine lv_bipush (v := 99) hx hb dX13_needs_80 (by decide) ?_
    exact W.iret hx hb hr (fun t ht _ => ⟨rI (by rw [kn_v (n := 4) c_26_4 (by decide)]; rfl), ht⟩) (fun q h => by cases h) dX13_needs_82
  by_cases c_26_5 : (x.1 0 (2 + 0) k) = 5
  · skip
    refine lv_tableIn (off := 57) (tgt := 83) hx hb dX13_needs_26 (by rw [c_26_5]; decide) (by rw [c_26_5]; decide) (by rw [c_26_5]; rfl) (by decide) ?_
    refine lv_iconst (v := 0) hx hb dX13_needs_83 (by decide) ?_
    exact W.iret hx hb hr (fun t ht _ => ⟨rI (by rw [kn_v (n := 5) c_26_5 (by decide)]; rfl), ht⟩) (fun q h => by cases h) dX13_needs_84
  by_cases c_26_6 : (x.1 0 (2 + 0) k) = 6
  · skip
    refine lv_tableIn (off := 59) (tgt := 85) hx hb dX13_needs_26 (by rw [c_26_6]; decide) (by rw [c_26_6]; decide) (by rw [c_26_6]; rfl) (by decide) ?_
    refine lv_aload_n hx hb dX13_needs_85 rfl (lv_at hl 2 rfl) ?_
    refine lv_iload_n hx hb dX13_needs_86 rfl (lv_at hl 3 rfl) ?_
    refine c_r (k_V (As := [.int (nI k)]) (rest := []) F (k_X13_hasOther x (hO) k (by omega)) (cwV 1 hts (lw_V q1301 q1303 qs57 q107 q1304) rfl rfl rfl (by decide +kernel) ⟨Nat.le_of_ble_eq_true rfl, Nat.le_of_ble_eq_true rfl⟩) hI hK (hw.recv hI hK (mf_main) rfl) rfl hl.1 rfl (Nat.le_of_ble_eq_true rfl) dX13_needs_87 ⟨Nat.le_of_ble_eq_true rfl, Nat.le_of_ble_eq_true rfl⟩) ?_
    refine lv_if_eq (tgt := 97) hx hb dX13_needs_90 (by decide) (fun c_90 => ?_) (fun c_90 => ?_)
    · skip
      refine lv_iload_n hx hb dX13_needs_97 rfl (lv_at hl 0 rfl) ?_
      exact W.iret hx hb hr (fun t ht _ => ⟨rI (by rw [kn_v (n := 6) c_26_6 (by decide), nd_6]; first | (rw [if_pos c_90]; exact hl_kd h10) | rw [if_neg c_90]), ht⟩) (fun q h => by cases h) dX13_needs_98
    · skip
      refine lv_iconst (v := 1) hx hb dX13_needs_93 (by decide) ?_
      refine lv_goto (tgt := 98) hx hb dX13_needs_94 (by decide) ?_
      exact W.iret hx hb hr (fun t ht _ => ⟨rI (by rw [kn_v (n := 6) c_26_6 (by decide), nd_6]; first | (rw [if_pos c_90]; exact hl_kd h10) | rw [if_neg c_90]), ht⟩) (fun q h => by cases h) dX13_needs_98
  refine lv_tableOut (tgt := 99) hx hb dX13_needs_26 (by have n0 := lv_neT c_26_1 (a := 1) (by decide); have n1 := lv_neT c_26_2 (a := 2) (by decide); have n2 := lv_neT c_26_3 (a := 3) (by decide); have n3 := lv_neT c_26_4 (a := 4) (by decide); have n4 := lv_neT c_26_5 (a := 5) (by decide); have n5 := lv_neT c_26_6 (a := 6) (by decide); omega) (by decide) ?_
  refine lv_iload_n hx hb dX13_needs_99 rfl (lv_at hl 1 rfl) ?_
  exact W.iret hx hb hr (fun t ht _ => ⟨rI (by rw [kn_d hκ ek c_26_1 c_26_2 c_26_3 c_26_4 c_26_5 c_26_6]; rfl), ht⟩) (fun q h => by cases h) dX13_needs_100
theorem k_X13_hushIn {l : Launch} {D : va_G} {L : Nat → Nat} {A : Nat → Prop} (x : mst) (hO : wOk (x.1 0)) (room : Int32) : Met l yX13_hushIn (ws_ yX13_hushIn cX13_hushIn 4 (some .int)) ({ frames := 2, cells := 0, slots := 0, locals := 44 } : Room) (va_Pc [.ref (L 0), .int room] (pI D (cfM D L x) A)) (rQ (.int (hiI (x.1 0) room))) 0 0 nof := by
  refine met_I (by decide) rfl (Nat.le_of_ble_eq_true rfl) ?_
  intro p e s m below meth c ls hx hb hr hml hown hts hlocks hl hI hK
  have F : CallFix p m c cX13_hushIn 4 s _ lw_all RX13 := ⟨hx, hb, hml, hown, hts⟩
  have hl : lv_has ls 4 [(0, .ref (L 0)), (1, .int room)] := hl
  obtain ⟨n, hn, h8⟩ : ∃ n, x.1 0 1 0 = nI n ∧ n ≤ 8 := ⟨_, hO.n⟩
  have hN : wN (x.1 0) = n := by unfold wN; rw [hn, nI_clamp (by omega)]
  refine lv_iconst (v := 0) hx hb dX13_hushIn_0 (by decide) ?_
  refine lv_istore_n (lv' := [(2, .int 0), (0, .ref (L 0)), (1, .int room)]) hx hb dX13_hushIn_1 rfl hl (by decide) rfl (fun ls hl => ?_)
  refine lv_iconst (v := 0) hx hb dX13_hushIn_2 (by decide) ?_
  refine lv_istore_n (lv' := [(3, .int 0), (2, .int 0), (0, .ref (L 0)), (1, .int room)]) hx hb dX13_hushIn_3 rfl hl (by decide) rfl (fun ls hl => ?_)
  have lp4 : ∀ (fuel : Nat) (i : Nat), (i ≤ n) → n - i < fuel → ∀ (v2 : Int32) (v3 : Int32), v2 = itr (hiS (x.1 0) (whI (x.1 0) room)) 0 i → v3 = nI i → ∀ (ls : Array Slot), lv_has ls 4 [(0, .ref (L 0)), (1, .int room), (2, .int v2), (3, .int v3)] → W p l e ({ frames := 2, cells := 0, slots := 0, locals := 44 } : Room) s m ([.ref (L 0), .int room] : List Value).toArray below meth c s.heap [] 0 0 (MQ below (rQ (.int (hiI (x.1 0) room))) ([.ref (L 0), .int room] : List Value).toArray s 0 0 nof) (F0 m 4 ls []) := by
    intro fuel
    induction fuel with
    | zero => intro i hi hf; exact absurd hf (Nat.not_lt_zero _)
    | succ fuel ih4 =>
      intro i hi hf4 v2 v3 e2 e3  ls hl
      subst e2 e3
      refine lv_iload_n hx hb dX13_hushIn_4 rfl (lv_at hl 3 rfl) ?_
      refine lv_aload_n hx hb dX13_hushIn_5 rfl (lv_at hl 0 rfl) ?_
      refine r_get (C := RX13) (T := TX13) (N := 18) hx hb hts in_X13 hown hK hI (mf_main) rfl 0 (by decide) (hts _ q1164) (fun _ h => h) rfl dX13_hushIn_6 ?_
      refine lv_iconst (v := 0) hx hb dX13_hushIn_9 (by decide) ?_
      refine n_ialdv (k := 0) (v := (x.1 0 1 0)) hx hb hK hI (mf_d) (rfl) (by decide) (by decide) (rfl) dX13_hushIn_10 ?_
      refine lv_icmp_ge (tgt := 41) hx hb dX13_hushIn_11 (by decide) (fun c_11 => ?_) (fun c_11 => ?_)
      · skip
        have c_11 : n ≤ i := (nle (a := n) (b := i) (hn) (rfl) (by omega) (by omega)).mp c_11
        refine lv_iload_n hx hb dX13_hushIn_41 rfl (lv_at hl 2 rfl) ?_
        exact W.iret hx hb hr (fun t ht _ => ⟨rI (by rw [hiI, hN, show i = n by omega]), ht⟩) (fun q h => by cases h) dX13_hushIn_42
      · skip
        have c_11 : ¬ n ≤ i := fun z => c_11 ((nle (a := n) (b := i) (hn) (rfl) (by omega) (by omega)).mpr z)
        refine lv_iload_n hx hb dX13_hushIn_14 rfl (lv_at hl 2 rfl) ?_
        refine lv_aload_n hx hb dX13_hushIn_15 rfl (lv_at hl 0 rfl) ?_
        refine lv_iload_n hx hb dX13_hushIn_16 rfl (lv_at hl 3 rfl) ?_
        refine lv_iload_n hx hb dX13_hushIn_17 rfl (lv_at hl 1 rfl) ?_
        refine c_r (k_V (As := [.int (nI i), .int room]) (rest := [.int (itr (hiS (x.1 0) (whI (x.1 0) room)) 0 i)]) F (k_X13_isIn x i room (by omega)) (cwV 2 hts (lw_V q1252 q1254 qs48 q107 q1255) rfl rfl rfl (by decide +kernel) ⟨Nat.le_of_ble_eq_true rfl, Nat.le_of_ble_eq_true rfl⟩) hI hK (hw.recv hI hK (mf_main) rfl) rfl hl.1 rfl (Nat.le_of_ble_eq_true rfl) dX13_hushIn_18 ⟨Nat.le_of_ble_eq_true rfl, Nat.le_of_ble_eq_true rfl⟩) ?_
        refine lv_if_eq (tgt := 32) hx hb dX13_hushIn_21 (by decide) (fun c_21 => ?_) (fun c_21 => ?_)
        · skip
          refine lv_iconst (v := 0) hx hb dX13_hushIn_32 (by decide) ?_
          refine lv_iadd hx hb dX13_hushIn_33 ?_
          refine lv_istore_n (lv' := [(2, .int ((itr (hiS (x.1 0) (whI (x.1 0) room)) 0 i) + (0 : Int32))), (0, .ref (L 0)), (1, .int room), (3, .int (nI i))]) hx hb dX13_hushIn_34 rfl hl (by decide) rfl (fun ls hl => ?_)
          refine lv_iinc (v := (nI (i + 1))) (lv' := [(3, .int (nI (i + 1))), (2, .int ((itr (hiS (x.1 0) (whI (x.1 0) room)) 0 i) + (0 : Int32))), (0, .ref (L 0)), (1, .int room)]) hx hb dX13_hushIn_35 hl (k := 3) rfl (nI_1 _) (by decide) rfl (fun ls hl => ?_)
          refine lv_goto (tgt := 4) hx hb dX13_hushIn_38 (by decide) ?_
          exact ih4 (i + 1) (by omega) (by omega) ((itr (hiS (x.1 0) (whI (x.1 0) room)) 0 i) + (0 : Int32)) (nI (i + 1)) (by rw [itr_s, hiS, hs_wh _ _ (by omega) (by omega)]; simp [c_11, c_21]) (rfl) ls (lv_sub hl [2, 3, 1, 0] rfl)
        · skip
          refine lv_aload_n hx hb dX13_hushIn_24 rfl (lv_at hl 0 rfl) ?_
          refine lv_iload_n hx hb dX13_hushIn_25 rfl (lv_at hl 3 rfl) ?_
          refine c_r (k_V (As := [.int (nI i)]) (rest := [.int (itr (hiS (x.1 0) (whI (x.1 0) room)) 0 i)]) F (k_X13_hushes x i (kN (x.1 0) i) (by omega) (hO.k (k := i) (by omega)).2 ((hO.k (k := i) (by omega)).1)) (cwV 1 hts (lw_V q1264 q1266 qs51 q107 q1267) rfl rfl rfl (by decide +kernel) ⟨Nat.le_of_ble_eq_true rfl, Nat.le_of_ble_eq_true rfl⟩) hI hK (hw.recv hI hK (mf_main) rfl) rfl hl.1 rfl (Nat.le_of_ble_eq_true rfl) dX13_hushIn_26 ⟨Nat.le_of_ble_eq_true rfl, Nat.le_of_ble_eq_true rfl⟩) ?_
          refine lv_goto (tgt := 33) hx hb dX13_hushIn_29 (by decide) ?_
          refine lv_iadd hx hb dX13_hushIn_33 ?_
          refine lv_istore_n (lv' := [(2, .int ((itr (hiS (x.1 0) (whI (x.1 0) room)) 0 i) + (huI (x.1 0) (kN (x.1 0) i) i))), (0, .ref (L 0)), (1, .int room), (3, .int (nI i))]) hx hb dX13_hushIn_34 rfl hl (by decide) rfl (fun ls hl => ?_)
          refine lv_iinc (v := (nI (i + 1))) (lv' := [(3, .int (nI (i + 1))), (2, .int ((itr (hiS (x.1 0) (whI (x.1 0) room)) 0 i) + (huI (x.1 0) (kN (x.1 0) i) i))), (0, .ref (L 0)), (1, .int room)]) hx hb dX13_hushIn_35 hl (k := 3) rfl (nI_1 _) (by decide) rfl (fun ls hl => ?_)
          refine lv_goto (tgt := 4) hx hb dX13_hushIn_38 (by decide) ?_
          exact ih4 (i + 1) (by omega) (by omega) ((itr (hiS (x.1 0) (whI (x.1 0) room)) 0 i) + (huI (x.1 0) (kN (x.1 0) i) i)) (nI (i + 1)) (by rw [itr_s, hiS, hs_wh _ _ (by omega) (by omega)]; simp [c_11, c_21]) (rfl) ls (lv_sub hl [2, 3, 1, 0] rfl)
  exact lp4 (_ + 1) (0) (Nat.zero_le _) (Nat.lt_succ_self _) 0 0 (rfl) (rfl) ls (lv_sub hl [2, 3, 1, 0] rfl)
theorem k_X13_hearers {l : Launch} {D : va_G} {L : Nat → Nat} {A : Nat → Prop} (x : mst) (hO : wOk (x.1 0)) (sy : Int32) (hsy : sOk sy) : Met l yX13_hearers (ws_ yX13_hearers cX13_hearers 6 (some .int)) ({ frames := 4, cells := 0, slots := 0, locals := 89 } : Room) (va_Pc [.ref (L 0), .int sy] (pI D (cfM D L x) A)) (rQ (.int (heI (x.1 0) sy))) 0 0 nof := by
  refine met_I (by decide) rfl (Nat.le_of_ble_eq_true rfl) ?_
  intro p e s m below meth c ls hx hb hr hml hown hts hlocks hl hI hK
  have F : CallFix p m c cX13_hearers 6 s _ lw_all RX13 := ⟨hx, hb, hml, hown, hts⟩
  have hl : lv_has ls 6 [(0, .ref (L 0)), (1, .int sy)] := hl
  obtain ⟨n, hn, h8⟩ : ∃ n, x.1 0 1 0 = nI n ∧ n ≤ 8 := ⟨_, hO.n⟩
  have hN : wN (x.1 0) = n := by unfold wN; rw [hn, nI_clamp (by omega)]
  refine lv_iload_n hx hb dX13_hearers_0 rfl (lv_at hl 1 rfl) ?_
  refine lv_sipush (v := 1000) hx hb dX13_hearers_1 (by decide) ?_
  refine lv_idiv hx hb dX13_hearers_4 (by decide) ?_
  refine lv_istore_n (lv' := [(2, .int (sy / (1000 : Int32))), (0, .ref (L 0)), (1, .int sy)]) hx hb dX13_hearers_5 rfl hl (by decide) rfl (fun ls hl => ?_)
  refine lv_iload_n hx hb dX13_hearers_6 rfl (lv_at hl 2 rfl) ?_
  refine lv_bipush (v := 10) hx hb dX13_hearers_7 (by decide) ?_
  refine lv_irem hx hb dX13_hearers_9 (by decide) ?_
  refine lv_aload_n hx hb dX13_hearers_10 rfl (lv_at hl 1 rfl) ?_
  refine lv_iload_n hx hb dX13_hearers_11 rfl (lv_at hl 0 rfl) ?_
  refine c_r (k_V (As := [.int (sy / (1000 : Int32))]) (rest := [.int (sy - sy / (10 : Int32) * (10 : Int32))]) F (k_X13_hushIn x (hO) (sy / (1000 : Int32))) (cwV 1 hts (lw_V q1260 q1262 qs50 q107 q1263) rfl rfl rfl (by decide +kernel) ⟨Nat.le_of_ble_eq_true rfl, Nat.le_of_ble_eq_true rfl⟩) hI hK (hw.recv hI hK (mf_main) rfl) rfl hl.1 rfl (Nat.le_of_ble_eq_true rfl) dX13_hearers_12 ⟨Nat.le_of_ble_eq_true rfl, Nat.le_of_ble_eq_true rfl⟩) ?_
  refine lv_isub hx hb dX13_hearers_15 ?_
  refine lv_iconst (v := 0) hx hb dX13_hearers_16 (by decide) ?_
  refine lv_bipush (v := 9) hx hb dX13_hearers_17 (by decide) ?_
  refine c_r (k_S (As := [.int ((sy - sy / (10 : Int32) * (10 : Int32)) - (hiI (x.1 0) (sy / (1000 : Int32)))), .int 0, .int 9]) (rest := []) F (k_X13_held ((sy - sy / (10 : Int32) * (10 : Int32)) - (hiI (x.1 0) (sy / (1000 : Int32)))) 0 9) (va_cwS 3 hts (lw_S q1298 q1299 q107 q1300) rfl rfl rfl (by decide +kernel) ⟨Nat.le_of_ble_eq_true rfl, Nat.le_of_ble_eq_true rfl⟩) rfl hl.1 rfl (Nat.le_of_ble_eq_true rfl) dX13_hearers_19 ⟨Nat.le_of_ble_eq_true rfl, Nat.le_of_ble_eq_true rfl⟩) ?_
  rw [hl_lod hO hsy]
  refine lv_istore_n (lv' := [(3, .int (lodI (x.1 0) sy)), (2, .int (sy / (1000 : Int32))), (0, .ref (L 0)), (1, .int sy)]) hx hb dX13_hearers_22 rfl hl (by decide) rfl (fun ls hl => ?_)
  refine lv_iconst (v := 0) hx hb dX13_hearers_23 (by decide) ?_
  refine lv_istore (lv' := [(4, .int 0), (3, .int (lodI (x.1 0) sy)), (2, .int (sy / (1000 : Int32))), (0, .ref (L 0)), (1, .int sy)]) hx hb dX13_hearers_24 hl (by decide) rfl (fun ls hl => ?_)
  refine lv_iconst (v := 0) hx hb dX13_hearers_26 (by decide) ?_
  refine lv_istore (lv' := [(5, .int 0), (4, .int 0), (3, .int (lodI (x.1 0) sy)), (2, .int (sy / (1000 : Int32))), (0, .ref (L 0)), (1, .int sy)]) hx hb dX13_hearers_27 hl (by decide) rfl (fun ls hl => ?_)
  have lp29 : ∀ (fuel : Nat) (i : Nat), (i ≤ n) → n - i < fuel → ∀ (v4 : Int32) (v5 : Int32), v4 = itr (heS (x.1 0) (whI (x.1 0) (rmI sy)) (lodI (x.1 0) sy)) 0 i → v5 = nI i → ∀ (ls : Array Slot), lv_has ls 6 [(0, .ref (L 0)), (1, .int sy), (2, .int (sy / (1000 : Int32))), (3, .int (lodI (x.1 0) sy)), (4, .int v4), (5, .int v5)] → W p l e ({ frames := 4, cells := 0, slots := 0, locals := 89 } : Room) s m ([.ref (L 0), .int sy] : List Value).toArray below meth c s.heap [] 0 0 (MQ below (rQ (.int (heI (x.1 0) sy))) ([.ref (L 0), .int sy] : List Value).toArray s 0 0 nof) (F0 m 29 ls []) := by
    intro fuel
    induction fuel with
    | zero => intro i hi hf; exact absurd hf (Nat.not_lt_zero _)
    | succ fuel ih29 =>
      intro i hi hf29 v4 v5 e4 e5  ls hl
      subst e4 e5
      refine lv_iload hx hb dX13_hearers_29 (lv_at hl 5 rfl) ?_
      refine lv_aload_n hx hb dX13_hearers_31 rfl (lv_at hl 0 rfl) ?_
      refine r_get (C := RX13) (T := TX13) (N := 18) hx hb hts in_X13 hown hK hI (mf_main) rfl 0 (by decide) (hts _ q1164) (fun _ h => h) rfl dX13_hearers_32 ?_
      refine lv_iconst (v := 0) hx hb dX13_hearers_35 (by decide) ?_
      refine n_ialdv (k := 0) (v := (x.1 0 1 0)) hx hb hK hI (mf_d) (rfl) (by decide) (by decide) (rfl) dX13_hearers_36 ?_
      refine lv_icmp_ge (tgt := 79) hx hb dX13_hearers_37 (by decide) (fun c_37 => ?_) (fun c_37 => ?_)
      · skip
        have c_37 : n ≤ i := (nle (a := n) (b := i) (hn) (rfl) (by omega) (by omega)).mp c_37
        refine lv_iload hx hb dX13_hearers_79 (lv_at hl 4 rfl) ?_
        exact W.iret hx hb hr (fun t ht _ => ⟨rI (by rw [heI, hN, show i = n by omega]), ht⟩) (fun q h => by cases h) dX13_hearers_81
      · skip
        have c_37 : ¬ n ≤ i := fun z => c_37 ((nle (a := n) (b := i) (hn) (rfl) (by omega) (by omega)).mpr z)
        refine lv_iload hx hb dX13_hearers_40 (lv_at hl 4 rfl) ?_
        refine lv_aload_n hx hb dX13_hearers_42 rfl (lv_at hl 0 rfl) ?_
        refine lv_iload hx hb dX13_hearers_43 (lv_at hl 5 rfl) ?_
        refine lv_iload_n hx hb dX13_hearers_45 rfl (lv_at hl 2 rfl) ?_
        refine c_r (k_V (As := [.int (nI i), .int (sy / (1000 : Int32))]) (rest := [.int (itr (heS (x.1 0) (whI (x.1 0) (rmI sy)) (lodI (x.1 0) sy)) 0 i)]) F (k_X13_isIn x i (sy / (1000 : Int32)) (by omega)) (cwV 2 hts (lw_V q1252 q1254 qs48 q107 q1255) rfl rfl rfl (by decide +kernel) ⟨Nat.le_of_ble_eq_true rfl, Nat.le_of_ble_eq_true rfl⟩) hI hK (hw.recv hI hK (mf_main) rfl) rfl hl.1 rfl (Nat.le_of_ble_eq_true rfl) dX13_hearers_46 ⟨Nat.le_of_ble_eq_true rfl, Nat.le_of_ble_eq_true rfl⟩) ?_
        refine lv_if_eq (tgt := 69) hx hb dX13_hearers_49 (by decide) (fun c_49 => ?_) (fun c_49 => ?_)
        · skip
          refine lv_iconst (v := 0) hx hb dX13_hearers_69 (by decide) ?_
          refine lv_ior hx hb dX13_hearers_70 ?_
          refine lv_istore (lv' := [(4, .int ((itr (heS (x.1 0) (whI (x.1 0) (rmI sy)) (lodI (x.1 0) sy)) 0 i) ||| (0 : Int32))), (0, .ref (L 0)), (1, .int sy), (2, .int (sy / (1000 : Int32))), (3, .int (lodI (x.1 0) sy)), (5, .int (nI i))]) hx hb dX13_hearers_71 hl (by decide) rfl (fun ls hl => ?_)
          refine lv_iinc (v := (nI (i + 1))) (lv' := [(5, .int (nI (i + 1))), (4, .int ((itr (heS (x.1 0) (whI (x.1 0) (rmI sy)) (lodI (x.1 0) sy)) 0 i) ||| (0 : Int32))), (0, .ref (L 0)), (1, .int sy), (2, .int (sy / (1000 : Int32))), (3, .int (lodI (x.1 0) sy))]) hx hb dX13_hearers_73 hl (k := 5) rfl (nI_1 _) (by decide) rfl (fun ls hl => ?_)
          refine lv_goto (tgt := 29) hx hb dX13_hearers_76 (by decide) ?_
          exact ih29 (i + 1) (by omega) (by omega) ((itr (heS (x.1 0) (whI (x.1 0) (rmI sy)) (lodI (x.1 0) sy)) 0 i) ||| (0 : Int32)) (nI (i + 1)) (by have hq := hs_wh (x.1 0) (rmI sy) (k := i) (by omega) (by omega); unfold rmI at hq; rw [itr_s, heS]; unfold rmI; rw [hq]; simp [b1, c_37, c_49]) (rfl) ls (lv_sub hl [2, 3, 4, 5, 1, 0] rfl)
        · skip
          refine lv_aload_n hx hb dX13_hearers_52 rfl (lv_at hl 0 rfl) ?_
          refine lv_iload hx hb dX13_hearers_53 (lv_at hl 5 rfl) ?_
          refine c_r (k_V (As := [.int (nI i)]) (rest := [.int (itr (heS (x.1 0) (whI (x.1 0) (rmI sy)) (lodI (x.1 0) sy)) 0 i)]) F (k_X13_needs x (hO) i (by omega)) (cwV 1 hts (lw_V q1294 q1296 qs56 q107 q1297) rfl rfl rfl (by decide +kernel) ⟨Nat.le_of_ble_eq_true rfl, Nat.le_of_ble_eq_true rfl⟩) hI hK (hw.recv hI hK (mf_main) rfl) rfl hl.1 rfl (Nat.le_of_ble_eq_true rfl) dX13_hearers_55 ⟨Nat.le_of_ble_eq_true rfl, Nat.le_of_ble_eq_true rfl⟩) ?_
          refine lv_iload_n hx hb dX13_hearers_58 rfl (lv_at hl 3 rfl) ?_
          refine lv_icmp_gt (tgt := 69) hx hb dX13_hearers_59 (by decide) (fun c_59 => ?_) (fun c_59 => ?_)
          · skip
            refine lv_iconst (v := 0) hx hb dX13_hearers_69 (by decide) ?_
            refine lv_ior hx hb dX13_hearers_70 ?_
            refine lv_istore (lv' := [(4, .int ((itr (heS (x.1 0) (whI (x.1 0) (rmI sy)) (lodI (x.1 0) sy)) 0 i) ||| (0 : Int32))), (0, .ref (L 0)), (1, .int sy), (2, .int (sy / (1000 : Int32))), (3, .int (lodI (x.1 0) sy)), (5, .int (nI i))]) hx hb dX13_hearers_71 hl (by decide) rfl (fun ls hl => ?_)
            refine lv_iinc (v := (nI (i + 1))) (lv' := [(5, .int (nI (i + 1))), (4, .int ((itr (heS (x.1 0) (whI (x.1 0) (rmI sy)) (lodI (x.1 0) sy)) 0 i) ||| (0 : Int32))), (0, .ref (L 0)), (1, .int sy), (2, .int (sy / (1000 : Int32))), (3, .int (lodI (x.1 0) sy))]) hx hb dX13_hearers_73 hl (k := 5) rfl (nI_1 _) (by decide) rfl (fun ls hl => ?_)
            refine lv_goto (tgt := 29) hx hb dX13_hearers_76 (by decide) ?_
            exact ih29 (i + 1) (by omega) (by omega) ((itr (heS (x.1 0) (whI (x.1 0) (rmI sy)) (lodI (x.1 0) sy)) 0 i) ||| (0 : Int32)) (nI (i + 1)) (by have hq := hs_wh (x.1 0) (rmI sy) (k := i) (by omega) (by omega); unfold rmI at hq; rw [itr_s, heS]; unfold rmI; rw [hq]; simp [b1, c_37, c_49, c_59]) (rfl) ls (lv_sub hl [2, 3, 4, 5, 1, 0] rfl)
          · skip
            refine lv_iconst (v := 1) hx hb dX13_hearers_62 (by decide) ?_
            refine lv_iload hx hb dX13_hearers_63 (lv_at hl 5 rfl) ?_
            refine lv_ishl hx hb dX13_hearers_65 ?_
            refine lv_goto (tgt := 70) hx hb dX13_hearers_66 (by decide) ?_
            refine lv_ior hx hb dX13_hearers_70 ?_
            refine lv_istore (lv' := [(4, .int ((itr (heS (x.1 0) (whI (x.1 0) (rmI sy)) (lodI (x.1 0) sy)) 0 i) ||| ((1 : Int32) <<< ((nI i) &&& 31)))), (0, .ref (L 0)), (1, .int sy), (2, .int (sy / (1000 : Int32))), (3, .int (lodI (x.1 0) sy)), (5, .int (nI i))]) hx hb dX13_hearers_71 hl (by decide) rfl (fun ls hl => ?_)
            refine lv_iinc (v := (nI (i + 1))) (lv' := [(5, .int (nI (i + 1))), (4, .int ((itr (heS (x.1 0) (whI (x.1 0) (rmI sy)) (lodI (x.1 0) sy)) 0 i) ||| ((1 : Int32) <<< ((nI i) &&& 31)))), (0, .ref (L 0)), (1, .int sy), (2, .int (sy / (1000 : Int32))), (3, .int (lodI (x.1 0) sy))]) hx hb dX13_hearers_73 hl (k := 5) rfl (nI_1 _) (by decide) rfl (fun ls hl => ?_)
            refine lv_goto (tgt := 29) hx hb dX13_hearers_76 (by decide) ?_
            exact ih29 (i + 1) (by omega) (by omega) ((itr (heS (x.1 0) (whI (x.1 0) (rmI sy)) (lodI (x.1 0) sy)) 0 i) ||| ((1 : Int32) <<< ((nI i) &&& 31))) (nI (i + 1)) (by have hq := hs_wh (x.1 0) (rmI sy) (k := i) (by omega) (by omega); unfold rmI at hq; rw [itr_s, heS]; unfold rmI; rw [hq]; simp [b1, c_37, c_49, c_59]) (rfl) ls (lv_sub hl [2, 3, 4, 5, 1, 0] rfl)
  exact lp29 (_ + 1) (0) (Nat.zero_le _) (Nat.lt_succ_self _) 0 0 (rfl) (rfl) ls (lv_sub hl [4, 5, 3, 2, 1, 0] rfl)
theorem k_X13_learns {l : Launch} {D : va_G} {L : Nat → Nat} {A : Nat → Prop} (x : mst) (k κ : Nat) (t : Int32) (tn : Nat) (hk : k < 8) (hκ : κ < 7) (ek : x.1 0 (2 + 0) k = nI κ) (ht : tn < 16) (et : t = nI tn) (hkn : isN (x.1 0 (2 + 3) k) 65536) : Met l yX13_learns (ws_ yX13_learns cX13_learns 5 none) ({ frames := 2, cells := 0, slots := 0, locals := 43 } : Room) (va_Pc [.ref (L 0), .int (nI k), .int t] (pI D (cfM D L x) A)) (nQ D (cfM D L (ys x 0 (lnw (x.1 0) k t (kpI κ)))) A none) 0 0 A := by
  refine met_I (by decide) rfl (Nat.le_of_ble_eq_true rfl) ?_
  intro p e s m below meth c ls hx hb hr hml hown hts hlocks hl hI hK
  have F : CallFix p m c cX13_learns 5 s _ lw_all RX13 := ⟨hx, hb, hml, hown, hts⟩
  have hl : lv_has ls 5 [(0, .ref (L 0)), (1, .int (nI k)), (2, .int t)] := hl
  have hS : va_S A s.heap s.heap [] := va_S.rf
  refine lv_aload_n hx hb dX13_learns_0 rfl (lv_at hl 0 rfl) ?_
  refine lv_iload_n hx hb dX13_learns_1 rfl (lv_at hl 1 rfl) ?_
  refine lv_iconst (v := 3) hx hb dX13_learns_2 (by decide) ?_
  refine c_r (k_V (As := [.int (nI k), .int 3]) (rest := []) F (k_X13_its x (nI k) 3 k 3 (by omega) (by omega) rfl rfl) (cwV 2 hts (lw_V q1256 q1258 qs49 q107 q1259) rfl rfl rfl (by decide +kernel) ⟨Nat.le_of_ble_eq_true rfl, Nat.le_of_ble_eq_true rfl⟩) hI hK (hw.recv hI hK (mf_main) rfl) rfl hl.1 rfl (Nat.le_of_ble_eq_true rfl) dX13_learns_3 ⟨Nat.le_of_ble_eq_true rfl, Nat.le_of_ble_eq_true rfl⟩) ?_
  refine lv_iconst (v := 1) hx hb dX13_learns_6 (by decide) ?_
  refine lv_iload_n hx hb dX13_learns_7 rfl (lv_at hl 2 rfl) ?_
  refine lv_ishl hx hb dX13_learns_8 ?_
  refine lv_ior hx hb dX13_learns_9 ?_
  refine lv_istore_n (lv' := [(3, .int ((x.1 0 (2 + 3) k) ||| ((1 : Int32) <<< (t &&& 31)))), (0, .ref (L 0)), (1, .int (nI k)), (2, .int t)]) hx hb dX13_learns_10 rfl hl (by decide) rfl (fun ls hl => ?_)
  refine lv_iload_n hx hb dX13_learns_11 rfl (lv_at hl 0 rfl) ?_
  refine c_r (k_S (As := [.int ((x.1 0 (2 + 3) k) ||| ((1 : Int32) <<< (t &&& 31)))]) (rest := []) F (k_X13_ones ((x.1 0 (2 + 3) k) ||| ((1 : Int32) <<< (t &&& 31))) (isN_lor hkn ht et)) (va_cwS 1 hts (lw_S q1363 q1364 q107 q1365) rfl rfl rfl (by decide +kernel) ⟨Nat.le_of_ble_eq_true rfl, Nat.le_of_ble_eq_true rfl⟩) rfl hl.1 rfl (Nat.le_of_ble_eq_true rfl) dX13_learns_12 ⟨Nat.le_of_ble_eq_true rfl, Nat.le_of_ble_eq_true rfl⟩) ?_
  refine lv_aload_n hx hb dX13_learns_15 rfl (lv_at hl 1 rfl) ?_
  refine lv_iload_n hx hb dX13_learns_16 rfl (lv_at hl 2 rfl) ?_
  refine c_r (k_V (As := [.int (nI k)]) (rest := [.int (bcI ((x.1 0 (2 + 3) k) ||| ((1 : Int32) <<< (t &&& 31))))]) F (k_X13_keeps x k κ (by omega) hκ ek) (cwV 1 hts (lw_V q1309 q1311 qs59 q107 q1312) rfl rfl rfl (by decide +kernel) ⟨Nat.le_of_ble_eq_true rfl, Nat.le_of_ble_eq_true rfl⟩) hI hK (hw.recv hI hK (mf_main) rfl) rfl hl.1 rfl (Nat.le_of_ble_eq_true rfl) dX13_learns_17 ⟨Nat.le_of_ble_eq_true rfl, Nat.le_of_ble_eq_true rfl⟩) ?_
  refine lv_icmp_le (tgt := 56) hx hb dX13_learns_20 (by decide) (fun c_20 => ?_) (fun c_20 => ?_)
  · skip
    have c_20 := Int32.not_lt.mpr c_20
    refine lv_aload_n hx hb dX13_learns_56 rfl (lv_at hl 1 rfl) ?_
    refine lv_iload_n hx hb dX13_learns_57 rfl (lv_at hl 2 rfl) ?_
    refine lv_iconst (v := 3) hx hb dX13_learns_58 (by decide) ?_
    refine lv_iload_n hx hb dX13_learns_59 rfl (lv_at hl 0 rfl) ?_
    refine c_m (k_V (As := [.int (nI k), .int 3, .int ((x.1 0 (2 + 3) k) ||| ((1 : Int32) <<< (t &&& 31)))]) (rest := []) F (k_X13_sets x (nI k) 3 k 3 ((x.1 0 (2 + 3) k) ||| ((1 : Int32) <<< (t &&& 31))) (by omega) (by omega) rfl rfl) (cwV 3 hts (lw_V q1281 q1283 qs54 q107 q1284) rfl rfl rfl (by decide +kernel) ⟨Nat.le_of_ble_eq_true rfl, Nat.le_of_ble_eq_true rfl⟩) hI hK (hw.recv hI hK (mf_main) rfl) rfl hl.1 rfl (Nat.le_of_ble_eq_true rfl) dX13_learns_60 ⟨Nat.le_of_ble_eq_true rfl, Nat.le_of_ble_eq_true rfl⟩) hS (fun H1 locs1 hI hS => ?_)
    obtain ⟨x1, ex1⟩ : ∃ z, z = ys x 0 (u2 (x.1 0) (2 + 3) k ((x.1 0 (2 + 3) k) ||| ((1 : Int32) <<< (t &&& 31)))) := ⟨_, rfl⟩
    rw [← ex1] at hI
    exact W.vret hx hb hr (fun t ht _ => ⟨rfl, by rw [ht]; exact hw_eq hI (congrArg (cfM D L) (by first | (rw [ex1, lnw, lnI]; simp only [if_neg c_20]; done) | (rw [ex1, lnw, hln, hij]))), hS.F ht⟩) hS.2.2 dX13_learns_63
  · skip
    have c_20 := Int32.not_le.mp c_20
    obtain ⟨j, hj, hfirst, hset, hjt, hln⟩ := ln_firstT et hkn ht (kp_3 hκ) c_20
    refine lv_iconst (v := 0) hx hb dX13_learns_23 (by decide) ?_
    refine lv_istore (lv' := [(4, .int 0), (3, .int ((x.1 0 (2 + 3) k) ||| ((1 : Int32) <<< (t &&& 31)))), (0, .ref (L 0)), (1, .int (nI k)), (2, .int t)]) hx hb dX13_learns_24 hl (by decide) rfl (fun ls hl => ?_)
    have lp26 : ∀ (fuel : Nat) (i : Nat), (i ≤ j) → j - i < fuel → ∀ (v4 : Int32), v4 = nI i → ∀ (xc26 : mst), xc26 = x → ∀ (H : Heap) (locs : List Loc), hw D (cfM D L xc26) A H → va_S A s.heap H locs → ∀ (ls : Array Slot), lv_has ls 5 [(0, .ref (L 0)), (1, .int (nI k)), (2, .int t), (3, .int ((x.1 0 (2 + 3) k) ||| ((1 : Int32) <<< (t &&& 31)))), (4, .int v4)] → W p l e ({ frames := 2, cells := 0, slots := 0, locals := 43 } : Room) s m ([.ref (L 0), .int (nI k), .int t] : List Value).toArray below meth c H locs 0 0 (MQ below (nQ D (cfM D L (ys x 0 (lnw (x.1 0) k t (kpI κ)))) A none) ([.ref (L 0), .int (nI k), .int t] : List Value).toArray s 0 0 A) (F0 m 26 ls []) := by
      intro fuel
      induction fuel with
      | zero => intro i hi hf; exact absurd hf (Nat.not_lt_zero _)
      | succ fuel ih26 =>
        intro i hi hf26 v4 e4  xc26 exc26 H locs hI hS ls hl
        subst e4
        refine lv_iload_n hx hb dX13_learns_26 rfl (lv_at hl 3 rfl) ?_
        refine lv_iload hx hb dX13_learns_27 (lv_at hl 4 rfl) ?_
        refine lv_ishr hx hb dX13_learns_29 ?_
        refine lv_iconst (v := 1) hx hb dX13_learns_30 (by decide) ?_
        refine lv_iand hx hb dX13_learns_31 ?_
        refine lv_if_eq (tgt := 41) hx hb dX13_learns_32 (by decide) (fun c_32 => ?_) (fun c_32 => ?_)
        · skip
          refine lv_iinc (v := (nI (i + 1))) (lv' := [(4, .int (nI (i + 1))), (0, .ref (L 0)), (1, .int (nI k)), (2, .int t), (3, .int ((x.1 0 (2 + 3) k) ||| ((1 : Int32) <<< (t &&& 31))))]) hx hb dX13_learns_41 hl (k := 4) rfl (nI_1 _) (by decide) rfl (fun ls hl => ?_)
          refine lv_goto (tgt := 26) hx hb dX13_learns_44 (by decide) ?_
          exact ih26 (i + 1) (by have : i ≠ j := (fun q => by subst q; first | exact hset (hs_0.mpr c_32) | exact hjt c_38); omega) (by have : i ≠ j := (fun q => by subst q; first | exact hset (hs_0.mpr c_32) | exact hjt c_38); omega) (nI (i + 1)) (rfl) xc26 (exc26) _ _ hI hS ls (lv_sub hl [1, 2, 3, 4, 0] rfl)
        · skip
          refine lv_iload hx hb dX13_learns_35 (lv_at hl 4 rfl) ?_
          refine lv_iload_n hx hb dX13_learns_37 rfl (lv_at hl 2 rfl) ?_
          refine lv_icmp_ne (tgt := 47) hx hb dX13_learns_38 (by decide) (fun c_38 => ?_) (fun c_38 => ?_)
          · skip
            have c_38 : ¬ i = tn := fun z => c_38 ((neq (a := i) (b := tn) (rfl) (et) (by omega) (by omega)).mpr z)
            have hij : i = j := by by_cases q : i = j; exact q; exfalso; rcases hfirst i (by omega) with h | h; exact c_32 (hs_0.mp h); exact c_38 h
            refine lv_iload_n hx hb dX13_learns_47 rfl (lv_at hl 3 rfl) ?_
            refine lv_iconst (v := 1) hx hb dX13_learns_48 (by decide) ?_
            refine lv_iload hx hb dX13_learns_49 (lv_at hl 4 rfl) ?_
            refine lv_ishl hx hb dX13_learns_51 ?_
            refine lv_iconst (v := (-1)) hx hb dX13_learns_52 (by decide) ?_
            refine lv_ixor hx hb dX13_learns_53 ?_
            refine lv_iand hx hb dX13_learns_54 ?_
            refine lv_istore_n (lv' := [(3, .int (((x.1 0 (2 + 3) k) ||| ((1 : Int32) <<< (t &&& 31))) &&& (((1 : Int32) <<< ((nI i) &&& 31)) ^^^ ((-1) : Int32)))), (0, .ref (L 0)), (1, .int (nI k)), (2, .int t), (4, .int (nI i))]) hx hb dX13_learns_55 rfl hl (by decide) rfl (fun ls hl => ?_)
            refine lv_aload_n hx hb dX13_learns_56 rfl (lv_at hl 1 rfl) ?_
            refine lv_iload_n hx hb dX13_learns_57 rfl (lv_at hl 2 rfl) ?_
            refine lv_iconst (v := 3) hx hb dX13_learns_58 (by decide) ?_
            refine lv_iload_n hx hb dX13_learns_59 rfl (lv_at hl 0 rfl) ?_
            refine c_m (k_V (As := [.int (nI k), .int 3, .int (((x.1 0 (2 + 3) k) ||| ((1 : Int32) <<< (t &&& 31))) &&& (((1 : Int32) <<< ((nI i) &&& 31)) ^^^ ((-1) : Int32)))]) (rest := []) F (k_X13_sets xc26 (nI k) 3 k 3 (((x.1 0 (2 + 3) k) ||| ((1 : Int32) <<< (t &&& 31))) &&& (((1 : Int32) <<< ((nI i) &&& 31)) ^^^ ((-1) : Int32))) (by omega) (by omega) rfl rfl) (cwV 3 hts (lw_V q1281 q1283 qs54 q107 q1284) rfl rfl rfl (by decide +kernel) ⟨Nat.le_of_ble_eq_true rfl, Nat.le_of_ble_eq_true rfl⟩) hI hK (hw.recv hI hK (mf_main) rfl) rfl hl.1 rfl (Nat.le_of_ble_eq_true rfl) dX13_learns_60 ⟨Nat.le_of_ble_eq_true rfl, Nat.le_of_ble_eq_true rfl⟩) hS (fun H1 locs1 hI hS => ?_)
            obtain ⟨x2, ex2⟩ : ∃ z, z = ys xc26 0 (u2 (xc26.1 0) (2 + 3) k (((x.1 0 (2 + 3) k) ||| ((1 : Int32) <<< (t &&& 31))) &&& (((1 : Int32) <<< ((nI i) &&& 31)) ^^^ ((-1) : Int32)))) := ⟨_, rfl⟩
            rw [← ex2] at hI
            exact W.vret hx hb hr (fun t ht _ => ⟨rfl, by rw [ht]; exact hw_eq hI (congrArg (cfM D L) (by first | (rw [ex2, exc26, lnw, lnI]; simp only [if_neg c_20]; done) | (rw [ex2, exc26, lnw, hln, hij]))), hS.F ht⟩) hS.2.2 dX13_learns_63
          · skip
            have c_38 : i = tn := (neq (a := i) (b := tn) (rfl) (et) (by omega) (by omega)).mp c_38
            refine lv_iinc (v := (nI (i + 1))) (lv' := [(4, .int (nI (i + 1))), (0, .ref (L 0)), (1, .int (nI k)), (2, .int t), (3, .int ((x.1 0 (2 + 3) k) ||| ((1 : Int32) <<< (t &&& 31))))]) hx hb dX13_learns_41 hl (k := 4) rfl (nI_1 _) (by decide) rfl (fun ls hl => ?_)
            refine lv_goto (tgt := 26) hx hb dX13_learns_44 (by decide) ?_
            exact ih26 (i + 1) (by have : i ≠ j := (fun q => by subst q; first | exact hset (hs_0.mpr c_32) | exact hjt c_38); omega) (by have : i ≠ j := (fun q => by subst q; first | exact hset (hs_0.mpr c_32) | exact hjt c_38); omega) (nI (i + 1)) (rfl) xc26 (exc26) _ _ hI hS ls (lv_sub hl [1, 2, 3, 4, 0] rfl)
    exact lp26 (_ + 1) (0) (Nat.zero_le _) (Nat.lt_succ_self _) 0 (rfl) x (rfl) _ _ hI hS ls (lv_sub hl [2, 3, 4, 1, 0] rfl)
theorem k_X13_drawnOn {l : Launch} {D : va_G} {L : Nat → Nat} {A : Nat → Prop} (x : mst) (k : Nat) (hk : k < 8) (hdr : isN (x.1 0 (2 + 6) k) 10000) : Met l yX13_drawnOn (ws_ yX13_drawnOn cX13_drawnOn 2 none) ({ frames := 1, cells := 0, slots := 0, locals := 23 } : Room) (va_Pc [.ref (L 0), .int (nI k)] (pI D (cfM D L x) A)) (nQ D (cfM D L (ys x 0 (isdw (x.1 0) k))) A none) 0 0 A := by
  refine met_I (by decide) rfl (Nat.le_of_ble_eq_true rfl) ?_
  intro p e s m below meth c ls hx hb hr hml hown hts hlocks hl hI hK
  have F : CallFix p m c cX13_drawnOn 2 s _ lw_all RX13 := ⟨hx, hb, hml, hown, hts⟩
  have hl : lv_has ls 2 [(0, .ref (L 0)), (1, .int (nI k))] := hl
  have hS : va_S A s.heap s.heap [] := va_S.rf
  refine lv_aload_n hx hb dX13_drawnOn_0 rfl (lv_at hl 0 rfl) ?_
  refine lv_iload_n hx hb dX13_drawnOn_1 rfl (lv_at hl 1 rfl) ?_
  refine lv_iconst (v := 5) hx hb dX13_drawnOn_2 (by decide) ?_
  refine lv_aload_n hx hb dX13_drawnOn_3 rfl (lv_at hl 0 rfl) ?_
  refine lv_iload_n hx hb dX13_drawnOn_4 rfl (lv_at hl 1 rfl) ?_
  refine lv_iconst (v := 5) hx hb dX13_drawnOn_5 (by decide) ?_
  refine c_r (k_V (As := [.int (nI k), .int 5]) (rest := [.int 5, .int (nI k), .ref (L 0)]) F (k_X13_its x (nI k) 5 k 5 (by omega) (by omega) rfl rfl) (cwV 2 hts (lw_V q1256 q1258 qs49 q107 q1259) rfl rfl rfl (by decide +kernel) ⟨Nat.le_of_ble_eq_true rfl, Nat.le_of_ble_eq_true rfl⟩) hI hK (hw.recv hI hK (mf_main) rfl) rfl hl.1 rfl (Nat.le_of_ble_eq_true rfl) dX13_drawnOn_6 ⟨Nat.le_of_ble_eq_true rfl, Nat.le_of_ble_eq_true rfl⟩) ?_
  refine lv_aload_n hx hb dX13_drawnOn_9 rfl (lv_at hl 0 rfl) ?_
  refine lv_iload_n hx hb dX13_drawnOn_10 rfl (lv_at hl 1 rfl) ?_
  refine lv_iconst (v := 3) hx hb dX13_drawnOn_11 (by decide) ?_
  refine c_r (k_V (As := [.int (nI k), .int 3]) (rest := [.int (x.1 0 (2 + 5) k), .int 5, .int (nI k), .ref (L 0)]) F (k_X13_its x (nI k) 3 k 3 (by omega) (by omega) rfl rfl) (cwV 2 hts (lw_V q1256 q1258 qs49 q107 q1259) rfl rfl rfl (by decide +kernel) ⟨Nat.le_of_ble_eq_true rfl, Nat.le_of_ble_eq_true rfl⟩) hI hK (hw.recv hI hK (mf_main) rfl) rfl hl.1 rfl (Nat.le_of_ble_eq_true rfl) dX13_drawnOn_12 ⟨Nat.le_of_ble_eq_true rfl, Nat.le_of_ble_eq_true rfl⟩) ?_
  refine lv_ior hx hb dX13_drawnOn_15 ?_
  refine c_m (k_V (As := [.int (nI k), .int 5, .int ((x.1 0 (2 + 5) k) ||| (x.1 0 (2 + 3) k))]) (rest := []) F (k_X13_sets x (nI k) 5 k 5 ((x.1 0 (2 + 5) k) ||| (x.1 0 (2 + 3) k)) (by omega) (by omega) rfl rfl) (cwV 3 hts (lw_V q1281 q1283 qs54 q107 q1284) rfl rfl rfl (by decide +kernel) ⟨Nat.le_of_ble_eq_true rfl, Nat.le_of_ble_eq_true rfl⟩) hI hK (hw.recv hI hK (mf_main) rfl) rfl hl.1 rfl (Nat.le_of_ble_eq_true rfl) dX13_drawnOn_16 ⟨Nat.le_of_ble_eq_true rfl, Nat.le_of_ble_eq_true rfl⟩) hS (fun H1 locs1 hI hS => ?_)
  obtain ⟨x1, ex1⟩ : ∃ z, z = ys x 0 (u2 (x.1 0) (2 + 5) k ((x.1 0 (2 + 5) k) ||| (x.1 0 (2 + 3) k))) := ⟨_, rfl⟩
  rw [← ex1] at hI
  refine lv_aload_n hx hb dX13_drawnOn_19 rfl (lv_at hl 0 rfl) ?_
  refine lv_iload_n hx hb dX13_drawnOn_20 rfl (lv_at hl 1 rfl) ?_
  refine lv_iconst (v := 3) hx hb dX13_drawnOn_21 (by decide) ?_
  refine lv_iconst (v := 0) hx hb dX13_drawnOn_22 (by decide) ?_
  refine c_m (k_V (As := [.int (nI k), .int 3, .int 0]) (rest := []) F (k_X13_sets x1 (nI k) 3 k 3 0 (by omega) (by omega) rfl rfl) (cwV 3 hts (lw_V q1281 q1283 qs54 q107 q1284) rfl rfl rfl (by decide +kernel) ⟨Nat.le_of_ble_eq_true rfl, Nat.le_of_ble_eq_true rfl⟩) hI hK (hw.recv hI hK (mf_main) rfl) rfl hl.1 rfl (Nat.le_of_ble_eq_true rfl) dX13_drawnOn_23 ⟨Nat.le_of_ble_eq_true rfl, Nat.le_of_ble_eq_true rfl⟩) hS (fun H1 locs1 hI hS => ?_)
  obtain ⟨x2, ex2⟩ : ∃ z, z = ys x1 0 (u2 (x1.1 0) (2 + 3) k 0) := ⟨_, rfl⟩
  rw [← ex2] at hI
  refine lv_aload_n hx hb dX13_drawnOn_26 rfl (lv_at hl 0 rfl) ?_
  refine lv_iload_n hx hb dX13_drawnOn_27 rfl (lv_at hl 1 rfl) ?_
  refine lv_iconst (v := 4) hx hb dX13_drawnOn_28 (by decide) ?_
  refine lv_iconst (v := 0) hx hb dX13_drawnOn_29 (by decide) ?_
  refine c_m (k_V (As := [.int (nI k), .int 4, .int 0]) (rest := []) F (k_X13_sets x2 (nI k) 4 k 4 0 (by omega) (by omega) rfl rfl) (cwV 3 hts (lw_V q1281 q1283 qs54 q107 q1284) rfl rfl rfl (by decide +kernel) ⟨Nat.le_of_ble_eq_true rfl, Nat.le_of_ble_eq_true rfl⟩) hI hK (hw.recv hI hK (mf_main) rfl) rfl hl.1 rfl (Nat.le_of_ble_eq_true rfl) dX13_drawnOn_30 ⟨Nat.le_of_ble_eq_true rfl, Nat.le_of_ble_eq_true rfl⟩) hS (fun H1 locs1 hI hS => ?_)
  obtain ⟨x3, ex3⟩ : ∃ z, z = ys x2 0 (u2 (x2.1 0) (2 + 4) k 0) := ⟨_, rfl⟩
  rw [← ex3] at hI
  refine lv_aload_n hx hb dX13_drawnOn_33 rfl (lv_at hl 0 rfl) ?_
  refine lv_iload_n hx hb dX13_drawnOn_34 rfl (lv_at hl 1 rfl) ?_
  refine lv_bipush (v := 6) hx hb dX13_drawnOn_35 (by decide) ?_
  refine lv_aload_n hx hb dX13_drawnOn_37 rfl (lv_at hl 0 rfl) ?_
  refine lv_iload_n hx hb dX13_drawnOn_38 rfl (lv_at hl 1 rfl) ?_
  refine lv_bipush (v := 6) hx hb dX13_drawnOn_39 (by decide) ?_
  refine c_r (k_V (As := [.int (nI k), .int 6]) (rest := [.int 6, .int (nI k), .ref (L 0)]) F (k_X13_its x3 (nI k) 6 k 6 (by omega) (by omega) rfl rfl) (cwV 2 hts (lw_V q1256 q1258 qs49 q107 q1259) rfl rfl rfl (by decide +kernel) ⟨Nat.le_of_ble_eq_true rfl, Nat.le_of_ble_eq_true rfl⟩) hI hK (hw.recv hI hK (mf_main) rfl) rfl hl.1 rfl (Nat.le_of_ble_eq_true rfl) dX13_drawnOn_41 ⟨Nat.le_of_ble_eq_true rfl, Nat.le_of_ble_eq_true rfl⟩) ?_
  have hq : x3.1 0 (2 + 6) k = x.1 0 (2 + 6) k := by simp [ex3, ex2, ex1, ys_at, u2_at]
  refine lv_iconst (v := 1) hx hb dX13_drawnOn_44 (by decide) ?_
  refine lv_iadd hx hb dX13_drawnOn_45 ?_
  refine lv_iconst (v := 0) hx hb dX13_drawnOn_46 (by decide) ?_
  refine lv_sipush (v := 9999) hx hb dX13_drawnOn_47 (by decide) ?_
  refine c_r (k_S (As := [.int ((x3.1 0 (2 + 6) k) + (1 : Int32)), .int 0, .int 9999]) (rest := [.int 6, .int (nI k), .ref (L 0)]) F (k_X13_held ((x3.1 0 (2 + 6) k) + (1 : Int32)) 0 9999) (va_cwS 3 hts (lw_S q1298 q1299 q107 q1300) rfl rfl rfl (by decide +kernel) ⟨Nat.le_of_ble_eq_true rfl, Nat.le_of_ble_eq_true rfl⟩) rfl hl.1 rfl (Nat.le_of_ble_eq_true rfl) dX13_drawnOn_50 ⟨Nat.le_of_ble_eq_true rfl, Nat.le_of_ble_eq_true rfl⟩) ?_
  rw [hl_mn (by rw [hq]; exact hdr)]
  refine c_m (k_V (As := [.int (nI k), .int 6, .int (mnI 9999 (x3.1 0 (2 + 6) k + 1))]) (rest := []) F (k_X13_sets x3 (nI k) 6 k 6 (mnI 9999 (x3.1 0 (2 + 6) k + 1)) (by omega) (by omega) rfl rfl) (cwV 3 hts (lw_V q1281 q1283 qs54 q107 q1284) rfl rfl rfl (by decide +kernel) ⟨Nat.le_of_ble_eq_true rfl, Nat.le_of_ble_eq_true rfl⟩) hI hK (hw.recv hI hK (mf_main) rfl) rfl hl.1 rfl (Nat.le_of_ble_eq_true rfl) dX13_drawnOn_53 ⟨Nat.le_of_ble_eq_true rfl, Nat.le_of_ble_eq_true rfl⟩) hS (fun H1 locs1 hI hS => ?_)
  obtain ⟨x4, ex4⟩ : ∃ z, z = ys x3 0 (u2 (x3.1 0) (2 + 6) k (mnI 9999 (x3.1 0 (2 + 6) k + 1))) := ⟨_, rfl⟩
  rw [← ex4] at hI
  refine lv_aload_n hx hb dX13_drawnOn_56 rfl (lv_at hl 0 rfl) ?_
  refine lv_iload_n hx hb dX13_drawnOn_57 rfl (lv_at hl 1 rfl) ?_
  refine lv_iconst (v := 1) hx hb dX13_drawnOn_58 (by decide) ?_
  refine lv_aload_n hx hb dX13_drawnOn_59 rfl (lv_at hl 0 rfl) ?_
  refine lv_iload_n hx hb dX13_drawnOn_60 rfl (lv_at hl 1 rfl) ?_
  refine lv_iconst (v := 1) hx hb dX13_drawnOn_61 (by decide) ?_
  refine c_r (k_V (As := [.int (nI k), .int 1]) (rest := [.int 1, .int (nI k), .ref (L 0)]) F (k_X13_its x4 (nI k) 1 k 1 (by omega) (by omega) rfl rfl) (cwV 2 hts (lw_V q1256 q1258 qs49 q107 q1259) rfl rfl rfl (by decide +kernel) ⟨Nat.le_of_ble_eq_true rfl, Nat.le_of_ble_eq_true rfl⟩) hI hK (hw.recv hI hK (mf_main) rfl) rfl hl.1 rfl (Nat.le_of_ble_eq_true rfl) dX13_drawnOn_62 ⟨Nat.le_of_ble_eq_true rfl, Nat.le_of_ble_eq_true rfl⟩) ?_
  refine lv_iconst (v := 1) hx hb dX13_drawnOn_65 (by decide) ?_
  refine lv_iadd hx hb dX13_drawnOn_66 ?_
  refine lv_bipush (v := 6) hx hb dX13_drawnOn_67 (by decide) ?_
  refine lv_irem hx hb dX13_drawnOn_69 (by decide) ?_
  refine c_m (k_V (As := [.int (nI k), .int 1, .int (((x4.1 0 (2 + 1) k) + (1 : Int32)) - ((x4.1 0 (2 + 1) k) + (1 : Int32)) / (6 : Int32) * (6 : Int32))]) (rest := []) F (k_X13_sets x4 (nI k) 1 k 1 (((x4.1 0 (2 + 1) k) + (1 : Int32)) - ((x4.1 0 (2 + 1) k) + (1 : Int32)) / (6 : Int32) * (6 : Int32)) (by omega) (by omega) rfl rfl) (cwV 3 hts (lw_V q1281 q1283 qs54 q107 q1284) rfl rfl rfl (by decide +kernel) ⟨Nat.le_of_ble_eq_true rfl, Nat.le_of_ble_eq_true rfl⟩) hI hK (hw.recv hI hK (mf_main) rfl) rfl hl.1 rfl (Nat.le_of_ble_eq_true rfl) dX13_drawnOn_70 ⟨Nat.le_of_ble_eq_true rfl, Nat.le_of_ble_eq_true rfl⟩) hS (fun H1 locs1 hI hS => ?_)
  obtain ⟨x5, ex5⟩ : ∃ z, z = ys x4 0 (u2 (x4.1 0) (2 + 1) k (((x4.1 0 (2 + 1) k) + (1 : Int32)) - ((x4.1 0 (2 + 1) k) + (1 : Int32)) / (6 : Int32) * (6 : Int32))) := ⟨_, rfl⟩
  rw [← ex5] at hI
  exact W.vret hx hb hr (fun t ht _ => ⟨rfl, by rw [ht]; exact hw_eq hI (congrArg (cfM D L) (by rw [ex5, ex4, ex3, ex2, ex1]; simp only [ys_ys, ys_at]; rfl)), hS.F ht⟩) hS.2.2 dX13_drawnOn_73
theorem k_X13_todays {l : Launch} {D : va_G} {L : Nat → Nat} {A : Nat → Prop} (x : mst) (hO : wOk (x.1 0)) : Met l yX13_todays (ws_ yX13_todays cX13_todays 1 (some .int)) ({ frames := 0, cells := 0, slots := 0, locals := 0 } : Room) (va_Pc [.ref (L 0)] (pI D (cfM D L x) A)) (rQ (.int (nwI (x.1 0)))) 0 0 nof := by
  refine met_I (by decide) rfl (Nat.le_of_ble_eq_true rfl) ?_
  intro p e s m below meth c ls hx hb hr hml hown hts hlocks hl hI hK
  have F : CallFix p m c cX13_todays 1 s _ lw_all RX13 := ⟨hx, hb, hml, hown, hts⟩
  have hl : lv_has ls 1 [(0, .ref (L 0))] := hl
  obtain ⟨δ, hδ, hd⟩ := hO.2.2.2.1
  refine lv_aload_n hx hb dX13_todays_0 rfl (lv_at hl 0 rfl) ?_
  refine r_get (C := RX13) (T := TX13) (N := 18) hx hb hts in_X13 hown hK hI (mf_main) rfl 0 (by decide) (hts _ q1164) (fun _ h => h) rfl dX13_todays_1 ?_
  refine lv_iconst (v := 3) hx hb dX13_todays_4 (by decide) ?_
  refine lv_aload_n hx hb dX13_todays_5 rfl (lv_at hl 0 rfl) ?_
  refine r_get (C := RX13) (T := TX13) (N := 18) hx hb hts in_X13 hown hK hI (mf_main) rfl 0 (by decide) (hts _ q1164) (fun _ h => h) rfl dX13_todays_6 ?_
  refine lv_iconst (v := 1) hx hb dX13_todays_9 (by decide) ?_
  refine n_ialdv (k := 1) (v := (x.1 0 1 2)) hx hb hK hI (mf_d) (rfl) (by decide) (by decide) (rfl) dX13_todays_10 ?_
  refine lv_bipush (v := 6) hx hb dX13_todays_11 (by decide) ?_
  refine lv_irem hx hb dX13_todays_13 (by decide) ?_
  refine lv_iadd hx hb dX13_todays_14 ?_
  refine n_ialdv (k := (3 + (δ % 6))) (v := (x.1 0 0 (δ % 6))) hx hb hK hI (mf_d) (na_add (rfl) (by rw [hd]; exact pk_rem (d := 6) (by omega) (by decide) (by decide))) (by omega) (by decide) (md_list _ (by omega)) dX13_todays_15 ?_
  exact W.iret hx hb hr (fun t ht _ => ⟨rI (by rw [nwI, hd, nI_clamp (by omega)]), ht⟩) (fun q h => by cases h) dX13_todays_16
theorem k_X13_known {l : Launch} {D : va_G} {L : Nat → Nat} {A : Nat → Prop} (x : mst) (hO : wOk (x.1 0)) (sm : Int32) (r : Nat) (hr : r < 7) : Met l yX13_known (ws_ yX13_known cX13_known 5 (some .int)) ({ frames := 1, cells := 0, slots := 0, locals := 22 } : Room) (va_Pc [.ref (L 0), .int sm, .int (nI r)] (pI D (cfM D L x) A)) (rQ (.int (knI (x.1 0) r sm))) 0 0 nof := by
  refine met_I (by decide) rfl (Nat.le_of_ble_eq_true rfl) ?_
  intro p e s m below meth c ls hx hb hr hml hown hts hlocks hl hI hK
  have F : CallFix p m c cX13_known 5 s _ lw_all RX13 := ⟨hx, hb, hml, hown, hts⟩
  have hl : lv_has ls 5 [(0, .ref (L 0)), (1, .int sm), (2, .int (nI r))] := hl
  obtain ⟨n, hn, h8⟩ : ∃ n, x.1 0 1 0 = nI n ∧ n ≤ 8 := ⟨_, hO.n⟩
  have hN : wN (x.1 0) = n := by unfold wN; rw [hn, nI_clamp (by omega)]
  refine lv_iconst (v := 0) hx hb dX13_known_0 (by decide) ?_
  refine lv_istore_n (lv' := [(3, .int 0), (0, .ref (L 0)), (1, .int sm), (2, .int (nI r))]) hx hb dX13_known_1 rfl hl (by decide) rfl (fun ls hl => ?_)
  refine lv_iconst (v := 0) hx hb dX13_known_2 (by decide) ?_
  refine lv_istore (lv' := [(4, .int 0), (3, .int 0), (0, .ref (L 0)), (1, .int sm), (2, .int (nI r))]) hx hb dX13_known_3 hl (by decide) rfl (fun ls hl => ?_)
  have lp5 : ∀ (fuel : Nat) (i : Nat), (i ≤ n) → n - i < fuel → ∀ (v3 : Int32) (v4 : Int32), v3 = itr (knS (x.1 0) r sm) 0 i → v4 = nI i → ∀ (ls : Array Slot), lv_has ls 5 [(0, .ref (L 0)), (1, .int sm), (2, .int (nI r)), (3, .int v3), (4, .int v4)] → W p l e ({ frames := 1, cells := 0, slots := 0, locals := 22 } : Room) s m ([.ref (L 0), .int sm, .int (nI r)] : List Value).toArray below meth c s.heap [] 0 0 (MQ below (rQ (.int (knI (x.1 0) r sm))) ([.ref (L 0), .int sm, .int (nI r)] : List Value).toArray s 0 0 nof) (F0 m 5 ls []) := by
    intro fuel
    induction fuel with
    | zero => intro i hi hf; exact absurd hf (Nat.not_lt_zero _)
    | succ fuel ih5 =>
      intro i hi hf5 v3 v4 e3 e4  ls hl
      subst e3 e4
      refine lv_iload hx hb dX13_known_5 (lv_at hl 4 rfl) ?_
      refine lv_aload_n hx hb dX13_known_7 rfl (lv_at hl 0 rfl) ?_
      refine r_get (C := RX13) (T := TX13) (N := 18) hx hb hts in_X13 hown hK hI (mf_main) rfl 0 (by decide) (hts _ q1164) (fun _ h => h) rfl dX13_known_8 ?_
      refine lv_iconst (v := 0) hx hb dX13_known_11 (by decide) ?_
      refine n_ialdv (k := 0) (v := (x.1 0 1 0)) hx hb hK hI (mf_d) (rfl) (by decide) (by decide) (rfl) dX13_known_12 ?_
      refine lv_icmp_ge (tgt := 46) hx hb dX13_known_13 (by decide) (fun c_13 => ?_) (fun c_13 => ?_)
      · skip
        have c_13 : n ≤ i := (nle (a := n) (b := i) (hn) (rfl) (by omega) (by omega)).mp c_13
        refine lv_iload_n hx hb dX13_known_46 rfl (lv_at hl 3 rfl) ?_
        exact W.iret hx hb hr (fun t ht _ => ⟨rI (by rw [knI, hN, show i = n by omega]), ht⟩) (fun q h => by cases h) dX13_known_47
      · skip
        have c_13 : ¬ n ≤ i := fun z => c_13 ((nle (a := n) (b := i) (hn) (rfl) (by omega) (by omega)).mpr z)
        refine lv_iload_n hx hb dX13_known_16 rfl (lv_at hl 3 rfl) ?_
        refine lv_iload_n hx hb dX13_known_17 rfl (lv_at hl 1 rfl) ?_
        refine lv_iload hx hb dX13_known_18 (lv_at hl 4 rfl) ?_
        refine lv_ishr hx hb dX13_known_20 ?_
        refine lv_iconst (v := 1) hx hb dX13_known_21 (by decide) ?_
        refine lv_iand hx hb dX13_known_22 ?_
        refine lv_iconst (v := 1) hx hb dX13_known_23 (by decide) ?_
        refine lv_icmp_ne (tgt := 37) hx hb dX13_known_24 (by decide) (fun c_24 => ?_) (fun c_24 => ?_)
        · skip
          refine lv_iconst (v := 0) hx hb dX13_known_37 (by decide) ?_
          refine lv_ior hx hb dX13_known_38 ?_
          refine lv_istore_n (lv' := [(3, .int ((itr (knS (x.1 0) r sm) 0 i) ||| (0 : Int32))), (0, .ref (L 0)), (1, .int sm), (2, .int (nI r)), (4, .int (nI i))]) hx hb dX13_known_39 rfl hl (by decide) rfl (fun ls hl => ?_)
          refine lv_iinc (v := (nI (i + 1))) (lv' := [(4, .int (nI (i + 1))), (3, .int ((itr (knS (x.1 0) r sm) 0 i) ||| (0 : Int32))), (0, .ref (L 0)), (1, .int sm), (2, .int (nI r))]) hx hb dX13_known_40 hl (k := 4) rfl (nI_1 _) (by decide) rfl (fun ls hl => ?_)
          refine lv_goto (tgt := 5) hx hb dX13_known_43 (by decide) ?_
          exact ih5 (i + 1) (by omega) (by omega) ((itr (knS (x.1 0) r sm) 0 i) ||| (0 : Int32)) (nI (i + 1)) (by rw [itr_s, knS]; simp only [← hs_1, Classical.not_not] at c_24; simp [c_13, c_24]) (rfl) ls (lv_sub hl [2, 3, 4, 1, 0] rfl)
        · skip
          refine lv_aload_n hx hb dX13_known_27 rfl (lv_at hl 0 rfl) ?_
          refine lv_iload hx hb dX13_known_28 (lv_at hl 4 rfl) ?_
          refine lv_iload_n hx hb dX13_known_30 rfl (lv_at hl 2 rfl) ?_
          refine c_r (k_V (As := [.int (nI i), .int (nI r)]) (rest := [.int (itr (knS (x.1 0) r sm) 0 i)]) F (k_X13_its x (nI i) (nI r) i r (by omega) (by omega) rfl rfl) (cwV 2 hts (lw_V q1256 q1258 qs49 q107 q1259) rfl rfl rfl (by decide +kernel) ⟨Nat.le_of_ble_eq_true rfl, Nat.le_of_ble_eq_true rfl⟩) hI hK (hw.recv hI hK (mf_main) rfl) rfl hl.1 rfl (Nat.le_of_ble_eq_true rfl) dX13_known_31 ⟨Nat.le_of_ble_eq_true rfl, Nat.le_of_ble_eq_true rfl⟩) ?_
          refine lv_goto (tgt := 38) hx hb dX13_known_34 (by decide) ?_
          refine lv_ior hx hb dX13_known_38 ?_
          refine lv_istore_n (lv' := [(3, .int ((itr (knS (x.1 0) r sm) 0 i) ||| (x.1 0 (2 + r) i))), (0, .ref (L 0)), (1, .int sm), (2, .int (nI r)), (4, .int (nI i))]) hx hb dX13_known_39 rfl hl (by decide) rfl (fun ls hl => ?_)
          refine lv_iinc (v := (nI (i + 1))) (lv' := [(4, .int (nI (i + 1))), (3, .int ((itr (knS (x.1 0) r sm) 0 i) ||| (x.1 0 (2 + r) i))), (0, .ref (L 0)), (1, .int sm), (2, .int (nI r))]) hx hb dX13_known_40 hl (k := 4) rfl (nI_1 _) (by decide) rfl (fun ls hl => ?_)
          refine lv_goto (tgt := 5) hx hb dX13_known_43 (by decide) ?_
          exact ih5 (i + 1) (by omega) (by omega) ((itr (knS (x.1 0) r sm) 0 i) ||| (x.1 0 (2 + r) i)) (nI (i + 1)) (by rw [itr_s, knS]; simp only [← hs_1, Classical.not_not] at c_24; simp [c_13, c_24]) (rfl) ls (lv_sub hl [2, 3, 4, 1, 0] rfl)
  exact lp5 (_ + 1) (0) (Nat.zero_le _) (Nat.lt_succ_self _) 0 0 (rfl) (rfl) ls (lv_sub hl [2, 3, 4, 1, 0] rfl)
theorem k_X13_allKnow {l : Launch} {D : va_G} {L : Nat → Nat} {A : Nat → Prop} (x : mst) (hO : wOk (x.1 0)) : Met l yX13_allKnow (ws_ yX13_allKnow cX13_allKnow 1 (some .int)) ({ frames := 2, cells := 0, slots := 0, locals := 46 } : Room) (va_Pc [.ref (L 0)] (pI D (cfM D L x) A)) (rQ (.int (knI (x.1 0) 3 (allI (x.1 0))))) 0 0 nof := by
  refine met_I (by decide) rfl (Nat.le_of_ble_eq_true rfl) ?_
  intro p e s m below meth c ls hx hb hr hml hown hts hlocks hl hI hK
  have F : CallFix p m c cX13_allKnow 1 s _ lw_all RX13 := ⟨hx, hb, hml, hown, hts⟩
  have hl : lv_has ls 1 [(0, .ref (L 0))] := hl
  obtain ⟨n, hn, h8⟩ : ∃ n, x.1 0 1 0 = nI n ∧ n ≤ 8 := ⟨_, hO.n⟩
  have hN : wN (x.1 0) = n := by unfold wN; rw [hn, nI_clamp (by omega)]
  refine lv_aload_n hx hb dX13_allKnow_0 rfl (lv_at hl 0 rfl) ?_
  refine lv_sipush (v := 255) hx hb dX13_allKnow_1 (by decide) ?_
  refine lv_iconst (v := 3) hx hb dX13_allKnow_4 (by decide) ?_
  refine c_r (k_V (As := [.int 255, .int 3]) (rest := []) F (k_X13_known x (hO) 255 3 (by omega)) (cwV 2 hts (lw_V q1268 q1270 qs52 q107 q1271) rfl rfl rfl (by decide +kernel) ⟨Nat.le_of_ble_eq_true rfl, Nat.le_of_ble_eq_true rfl⟩) hI hK (hw.recv hI hK (mf_main) rfl) rfl hl.1 rfl (Nat.le_of_ble_eq_true rfl) dX13_allKnow_5 ⟨Nat.le_of_ble_eq_true rfl, Nat.le_of_ble_eq_true rfl⟩) ?_
  exact W.iret hx hb hr (fun t ht _ => ⟨rI (kn_all _ _ hn h8), ht⟩) (fun q h => by cases h) dX13_allKnow_8
theorem k_X13_allHands {l : Launch} {D : va_G} {L : Nat → Nat} {A : Nat → Prop} (x : mst) (hO : wOk (x.1 0)) : Met l yX13_allHands (ws_ yX13_allHands cX13_allHands 1 (some .int)) ({ frames := 2, cells := 0, slots := 0, locals := 46 } : Room) (va_Pc [.ref (L 0)] (pI D (cfM D L x) A)) (rQ (.int (knI (x.1 0) 5 (allI (x.1 0))))) 0 0 nof := by
  refine met_I (by decide) rfl (Nat.le_of_ble_eq_true rfl) ?_
  intro p e s m below meth c ls hx hb hr hml hown hts hlocks hl hI hK
  have F : CallFix p m c cX13_allHands 1 s _ lw_all RX13 := ⟨hx, hb, hml, hown, hts⟩
  have hl : lv_has ls 1 [(0, .ref (L 0))] := hl
  obtain ⟨n, hn, h8⟩ : ∃ n, x.1 0 1 0 = nI n ∧ n ≤ 8 := ⟨_, hO.n⟩
  have hN : wN (x.1 0) = n := by unfold wN; rw [hn, nI_clamp (by omega)]
  refine lv_aload_n hx hb dX13_allHands_0 rfl (lv_at hl 0 rfl) ?_
  refine lv_sipush (v := 255) hx hb dX13_allHands_1 (by decide) ?_
  refine lv_iconst (v := 5) hx hb dX13_allHands_4 (by decide) ?_
  refine c_r (k_V (As := [.int 255, .int 5]) (rest := []) F (k_X13_known x (hO) 255 5 (by omega)) (cwV 2 hts (lw_V q1268 q1270 qs52 q107 q1271) rfl rfl rfl (by decide +kernel) ⟨Nat.le_of_ble_eq_true rfl, Nat.le_of_ble_eq_true rfl⟩) hI hK (hw.recv hI hK (mf_main) rfl) rfl hl.1 rfl (Nat.le_of_ble_eq_true rfl) dX13_allHands_5 ⟨Nat.le_of_ble_eq_true rfl, Nat.le_of_ble_eq_true rfl⟩) ?_
  exact W.iret hx hb hr (fun t ht _ => ⟨rI (kn_all _ _ hn h8), ht⟩) (fun q h => by cases h) dX13_allHands_8
theorem k_X13_allDrawn {l : Launch} {D : va_G} {L : Nat → Nat} {A : Nat → Prop} (x : mst) (hO : wOk (x.1 0)) : Met l yX13_allDrawn (ws_ yX13_allDrawn cX13_allDrawn 3 (some .int)) ({ frames := 1, cells := 0, slots := 0, locals := 22 } : Room) (va_Pc [.ref (L 0)] (pI D (cfM D L x) A)) (rQ (.int (diI (x.1 0)))) 0 0 nof := by
  refine met_I (by decide) rfl (Nat.le_of_ble_eq_true rfl) ?_
  intro p e s m below meth c ls hx hb hr hml hown hts hlocks hl hI hK
  have F : CallFix p m c cX13_allDrawn 3 s _ lw_all RX13 := ⟨hx, hb, hml, hown, hts⟩
  have hl : lv_has ls 3 [(0, .ref (L 0))] := hl
  obtain ⟨n, hn, h8⟩ : ∃ n, x.1 0 1 0 = nI n ∧ n ≤ 8 := ⟨_, hO.n⟩
  have hN : wN (x.1 0) = n := by unfold wN; rw [hn, nI_clamp (by omega)]
  refine lv_iconst (v := 0) hx hb dX13_allDrawn_0 (by decide) ?_
  refine lv_istore_n (lv' := [(1, .int 0), (0, .ref (L 0))]) hx hb dX13_allDrawn_1 rfl hl (by decide) rfl (fun ls hl => ?_)
  refine lv_iconst (v := 0) hx hb dX13_allDrawn_2 (by decide) ?_
  refine lv_istore_n (lv' := [(2, .int 0), (1, .int 0), (0, .ref (L 0))]) hx hb dX13_allDrawn_3 rfl hl (by decide) rfl (fun ls hl => ?_)
  have lp4 : ∀ (fuel : Nat) (i : Nat), (i ≤ n) → n - i < fuel → ∀ (v1 : Int32) (v2 : Int32), v1 = itr (diS (x.1 0)) 0 i → v2 = nI i → ∀ (ls : Array Slot), lv_has ls 3 [(0, .ref (L 0)), (1, .int v1), (2, .int v2)] → W p l e ({ frames := 1, cells := 0, slots := 0, locals := 22 } : Room) s m ([.ref (L 0)] : List Value).toArray below meth c s.heap [] 0 0 (MQ below (rQ (.int (diI (x.1 0)))) ([.ref (L 0)] : List Value).toArray s 0 0 nof) (F0 m 4 ls []) := by
    intro fuel
    induction fuel with
    | zero => intro i hi hf; exact absurd hf (Nat.not_lt_zero _)
    | succ fuel ih4 =>
      intro i hi hf4 v1 v2 e1 e2  ls hl
      subst e1 e2
      refine lv_iload_n hx hb dX13_allDrawn_4 rfl (lv_at hl 2 rfl) ?_
      refine lv_aload_n hx hb dX13_allDrawn_5 rfl (lv_at hl 0 rfl) ?_
      refine r_get (C := RX13) (T := TX13) (N := 18) hx hb hts in_X13 hown hK hI (mf_main) rfl 0 (by decide) (hts _ q1164) (fun _ h => h) rfl dX13_allDrawn_6 ?_
      refine lv_iconst (v := 0) hx hb dX13_allDrawn_9 (by decide) ?_
      refine n_ialdv (k := 0) (v := (x.1 0 1 0)) hx hb hK hI (mf_d) (rfl) (by decide) (by decide) (rfl) dX13_allDrawn_10 ?_
      refine lv_icmp_ge (tgt := 30) hx hb dX13_allDrawn_11 (by decide) (fun c_11 => ?_) (fun c_11 => ?_)
      · skip
        have c_11 : n ≤ i := (nle (a := n) (b := i) (hn) (rfl) (by omega) (by omega)).mp c_11
        refine lv_iload_n hx hb dX13_allDrawn_30 rfl (lv_at hl 1 rfl) ?_
        exact W.iret hx hb hr (fun t ht _ => ⟨rI (by rw [diI, hN, show i = n by omega]), ht⟩) (fun q h => by cases h) dX13_allDrawn_31
      · skip
        have c_11 : ¬ n ≤ i := fun z => c_11 ((nle (a := n) (b := i) (hn) (rfl) (by omega) (by omega)).mpr z)
        refine lv_iload_n hx hb dX13_allDrawn_14 rfl (lv_at hl 1 rfl) ?_
        refine lv_aload_n hx hb dX13_allDrawn_15 rfl (lv_at hl 0 rfl) ?_
        refine lv_iload_n hx hb dX13_allDrawn_16 rfl (lv_at hl 2 rfl) ?_
        refine lv_bipush (v := 6) hx hb dX13_allDrawn_17 (by decide) ?_
        refine c_r (k_V (As := [.int (nI i), .int 6]) (rest := [.int (itr (diS (x.1 0)) 0 i)]) F (k_X13_its x (nI i) 6 i 6 (by omega) (by omega) rfl rfl) (cwV 2 hts (lw_V q1256 q1258 qs49 q107 q1259) rfl rfl rfl (by decide +kernel) ⟨Nat.le_of_ble_eq_true rfl, Nat.le_of_ble_eq_true rfl⟩) hI hK (hw.recv hI hK (mf_main) rfl) rfl hl.1 rfl (Nat.le_of_ble_eq_true rfl) dX13_allDrawn_19 ⟨Nat.le_of_ble_eq_true rfl, Nat.le_of_ble_eq_true rfl⟩) ?_
        refine lv_iadd hx hb dX13_allDrawn_22 ?_
        refine lv_istore_n (lv' := [(1, .int ((itr (diS (x.1 0)) 0 i) + (x.1 0 (2 + 6) i))), (0, .ref (L 0)), (2, .int (nI i))]) hx hb dX13_allDrawn_23 rfl hl (by decide) rfl (fun ls hl => ?_)
        refine lv_iinc (v := (nI (i + 1))) (lv' := [(2, .int (nI (i + 1))), (1, .int ((itr (diS (x.1 0)) 0 i) + (x.1 0 (2 + 6) i))), (0, .ref (L 0))]) hx hb dX13_allDrawn_24 hl (k := 2) rfl (nI_1 _) (by decide) rfl (fun ls hl => ?_)
        refine lv_goto (tgt := 4) hx hb dX13_allDrawn_27 (by decide) ?_
        exact ih4 (i + 1) (by omega) (by omega) ((itr (diS (x.1 0)) 0 i) + (x.1 0 (2 + 6) i)) (nI (i + 1)) (by rw [itr_s]; rfl) (rfl) ls (lv_sub hl [2, 1, 0] rfl)
  exact lp4 (_ + 1) (0) (Nat.zero_le _) (Nat.lt_succ_self _) 0 0 (rfl) (rfl) ls (lv_sub hl [2, 1, 0] rfl)
theorem k_X13_wisest {l : Launch} {D : va_G} {L : Nat → Nat} {A : Nat → Prop} (x : mst) (hO : wOk (x.1 0)) : Met l yX13_wisest (ws_ yX13_wisest cX13_wisest 3 (some .int)) ({ frames := 1, cells := 0, slots := 0, locals := 22 } : Room) (va_Pc [.ref (L 0)] (pI D (cfM D L x) A)) (rQ (.int (wiI (x.1 0)))) 0 0 nof := by
  refine met_I (by decide) rfl (Nat.le_of_ble_eq_true rfl) ?_
  intro p e s m below meth c ls hx hb hr hml hown hts hlocks hl hI hK
  have F : CallFix p m c cX13_wisest 3 s _ lw_all RX13 := ⟨hx, hb, hml, hown, hts⟩
  have hl : lv_has ls 3 [(0, .ref (L 0))] := hl
  obtain ⟨n, hn, h8⟩ : ∃ n, x.1 0 1 0 = nI n ∧ n ≤ 8 := ⟨_, hO.n⟩
  have hN : wN (x.1 0) = n := by unfold wN; rw [hn, nI_clamp (by omega)]
  refine lv_iconst (v := (-1)) hx hb dX13_wisest_0 (by decide) ?_
  refine lv_istore_n (lv' := [(1, .int (-1)), (0, .ref (L 0))]) hx hb dX13_wisest_1 rfl hl (by decide) rfl (fun ls hl => ?_)
  refine lv_iconst (v := 0) hx hb dX13_wisest_2 (by decide) ?_
  refine lv_istore_n (lv' := [(2, .int 0), (1, .int (-1)), (0, .ref (L 0))]) hx hb dX13_wisest_3 rfl hl (by decide) rfl (fun ls hl => ?_)
  have lp4 : ∀ (fuel : Nat) (i : Nat), (i ≤ n) → n - i < fuel → ∀ (v1 : Int32) (v2 : Int32), v1 = itr (wiS (x.1 0)) (-1) i → v2 = nI i → ∀ (ls : Array Slot), lv_has ls 3 [(0, .ref (L 0)), (1, .int v1), (2, .int v2)] → W p l e ({ frames := 1, cells := 0, slots := 0, locals := 22 } : Room) s m ([.ref (L 0)] : List Value).toArray below meth c s.heap [] 0 0 (MQ below (rQ (.int (wiI (x.1 0)))) ([.ref (L 0)] : List Value).toArray s 0 0 nof) (F0 m 4 ls []) := by
    intro fuel
    induction fuel with
    | zero => intro i hi hf; exact absurd hf (Nat.not_lt_zero _)
    | succ fuel ih4 =>
      intro i hi hf4 v1 v2 e1 e2  ls hl
      subst e1 e2
      refine lv_iload_n hx hb dX13_wisest_4 rfl (lv_at hl 2 rfl) ?_
      refine lv_aload_n hx hb dX13_wisest_5 rfl (lv_at hl 0 rfl) ?_
      refine r_get (C := RX13) (T := TX13) (N := 18) hx hb hts in_X13 hown hK hI (mf_main) rfl 0 (by decide) (hts _ q1164) (fun _ h => h) rfl dX13_wisest_6 ?_
      refine lv_iconst (v := 0) hx hb dX13_wisest_9 (by decide) ?_
      refine n_ialdv (k := 0) (v := (x.1 0 1 0)) hx hb hK hI (mf_d) (rfl) (by decide) (by decide) (rfl) dX13_wisest_10 ?_
      refine lv_icmp_ge (tgt := 51) hx hb dX13_wisest_11 (by decide) (fun c_11 => ?_) (fun c_11 => ?_)
      · skip
        have c_11 : n ≤ i := (nle (a := n) (b := i) (hn) (rfl) (by omega) (by omega)).mp c_11
        refine lv_iload_n hx hb dX13_wisest_51 rfl (lv_at hl 1 rfl) ?_
        exact W.iret hx hb hr (fun t ht _ => ⟨rI (by rw [wiI, hN, show i = n by omega]), ht⟩) (fun q h => by cases h) dX13_wisest_52
      · skip
        have c_11 : ¬ n ≤ i := fun z => c_11 ((nle (a := n) (b := i) (hn) (rfl) (by omega) (by omega)).mpr z)
        refine lv_iload_n hx hb dX13_wisest_14 rfl (lv_at hl 1 rfl) ?_
        refine lv_if_lt (tgt := 39) hx hb dX13_wisest_15 (by decide) (fun c_15 => ?_) (fun c_15 => ?_)
        · skip
          have hm1 : itr (wiS (x.1 0)) (-1) i = -1 := wi_lt (by omega) (wiS_in (x.1 0) i) c_15
          refine lv_iload_n hx hb dX13_wisest_39 rfl (lv_at hl 2 rfl) ?_
          refine lv_goto (tgt := 44) hx hb dX13_wisest_40 (by decide) ?_
          refine lv_istore_n (lv' := [(1, .int (nI i)), (0, .ref (L 0)), (2, .int (nI i))]) hx hb dX13_wisest_44 rfl hl (by decide) rfl (fun ls hl => ?_)
          refine lv_iinc (v := (nI (i + 1))) (lv' := [(2, .int (nI (i + 1))), (1, .int (nI i)), (0, .ref (L 0))]) hx hb dX13_wisest_45 hl (k := 2) rfl (nI_1 _) (by decide) rfl (fun ls hl => ?_)
          refine lv_goto (tgt := 4) hx hb dX13_wisest_48 (by decide) ?_
          exact ih4 (i + 1) (by omega) (by omega) (nI i) (nI (i + 1)) (by rw [itr_s, wiS]; first | (rw [if_pos hm1]; done) | (simp [hm1, hj2, c_11, c_15]; done)) (rfl) ls (lv_sub hl [2, 1, 0] rfl)
        · skip
          have hm1 : ¬ itr (wiS (x.1 0)) (-1) i = -1 := fun q => c_15 (by rw [q]; decide)
          obtain ⟨j, hj, ej⟩ := (wiS_in (x.1 0) i).resolve_left hm1
          have hj2 : (itr (wiS (x.1 0)) (-1) i).toNatClampNeg = j := by rw [ej, nI_clamp (by omega)]
          refine lv_aload_n hx hb dX13_wisest_18 rfl (lv_at hl 0 rfl) ?_
          refine lv_iload_n hx hb dX13_wisest_19 rfl (lv_at hl 2 rfl) ?_
          refine lv_iconst (v := 5) hx hb dX13_wisest_20 (by decide) ?_
          refine c_r (k_V (As := [.int (nI i), .int 5]) (rest := []) F (k_X13_its x (nI i) 5 i 5 (by omega) (by omega) rfl rfl) (cwV 2 hts (lw_V q1256 q1258 qs49 q107 q1259) rfl rfl rfl (by decide +kernel) ⟨Nat.le_of_ble_eq_true rfl, Nat.le_of_ble_eq_true rfl⟩) hI hK (hw.recv hI hK (mf_main) rfl) rfl hl.1 rfl (Nat.le_of_ble_eq_true rfl) dX13_wisest_21 ⟨Nat.le_of_ble_eq_true rfl, Nat.le_of_ble_eq_true rfl⟩) ?_
          refine c_r (k_S (As := [.int (x.1 0 (2 + 5) i)]) (rest := []) F (k_X13_ones (x.1 0 (2 + 5) i) ((hO.2.1 i (by omega)).2.2.2.2.2.1)) (va_cwS 1 hts (lw_S q1363 q1364 q107 q1365) rfl rfl rfl (by decide +kernel) ⟨Nat.le_of_ble_eq_true rfl, Nat.le_of_ble_eq_true rfl⟩) rfl hl.1 rfl (Nat.le_of_ble_eq_true rfl) dX13_wisest_24 ⟨Nat.le_of_ble_eq_true rfl, Nat.le_of_ble_eq_true rfl⟩) ?_
          refine lv_aload_n hx hb dX13_wisest_27 rfl (lv_at hl 0 rfl) ?_
          refine lv_iload_n hx hb dX13_wisest_28 rfl (lv_at hl 1 rfl) ?_
          refine lv_iconst (v := 5) hx hb dX13_wisest_29 (by decide) ?_
          refine c_r (k_V (As := [.int (itr (wiS (x.1 0)) (-1) i), .int 5]) (rest := [.int (bcI (x.1 0 (2 + 5) i))]) F (k_X13_its x (itr (wiS (x.1 0)) (-1) i) 5 j 5 (by omega) (by omega) ej rfl) (cwV 2 hts (lw_V q1256 q1258 qs49 q107 q1259) rfl rfl rfl (by decide +kernel) ⟨Nat.le_of_ble_eq_true rfl, Nat.le_of_ble_eq_true rfl⟩) hI hK (hw.recv hI hK (mf_main) rfl) rfl hl.1 rfl (Nat.le_of_ble_eq_true rfl) dX13_wisest_30 ⟨Nat.le_of_ble_eq_true rfl, Nat.le_of_ble_eq_true rfl⟩) ?_
          refine c_r (k_S (As := [.int (x.1 0 (2 + 5) j)]) (rest := [.int (bcI (x.1 0 (2 + 5) i))]) F (k_X13_ones (x.1 0 (2 + 5) j) ((hO.2.1 j (by omega)).2.2.2.2.2.1)) (va_cwS 1 hts (lw_S q1363 q1364 q107 q1365) rfl rfl rfl (by decide +kernel) ⟨Nat.le_of_ble_eq_true rfl, Nat.le_of_ble_eq_true rfl⟩) rfl hl.1 rfl (Nat.le_of_ble_eq_true rfl) dX13_wisest_33 ⟨Nat.le_of_ble_eq_true rfl, Nat.le_of_ble_eq_true rfl⟩) ?_
          refine lv_icmp_le (tgt := 43) hx hb dX13_wisest_36 (by decide) (fun c_36 => ?_) (fun c_36 => ?_)
          · skip
            have c_36 := Int32.not_lt.mpr c_36
            refine lv_iload_n hx hb dX13_wisest_43 rfl (lv_at hl 1 rfl) ?_
            refine lv_istore_n (lv' := [(1, .int (itr (wiS (x.1 0)) (-1) i)), (0, .ref (L 0)), (2, .int (nI i))]) hx hb dX13_wisest_44 rfl hl (by decide) rfl (fun ls hl => ?_)
            refine lv_iinc (v := (nI (i + 1))) (lv' := [(2, .int (nI (i + 1))), (1, .int (itr (wiS (x.1 0)) (-1) i)), (0, .ref (L 0))]) hx hb dX13_wisest_45 hl (k := 2) rfl (nI_1 _) (by decide) rfl (fun ls hl => ?_)
            refine lv_goto (tgt := 4) hx hb dX13_wisest_48 (by decide) ?_
            exact ih4 (i + 1) (by omega) (by omega) (itr (wiS (x.1 0)) (-1) i) (nI (i + 1)) (by rw [itr_s, wiS]; first | (rw [if_pos hm1]; done) | (simp [hm1, hj2, c_11, c_15, c_36]; done)) (rfl) ls (lv_sub hl [2, 1, 0] rfl)
          · skip
            have c_36 := Int32.not_le.mp c_36
            refine lv_iload_n hx hb dX13_wisest_39 rfl (lv_at hl 2 rfl) ?_
            refine lv_goto (tgt := 44) hx hb dX13_wisest_40 (by decide) ?_
            refine lv_istore_n (lv' := [(1, .int (nI i)), (0, .ref (L 0)), (2, .int (nI i))]) hx hb dX13_wisest_44 rfl hl (by decide) rfl (fun ls hl => ?_)
            refine lv_iinc (v := (nI (i + 1))) (lv' := [(2, .int (nI (i + 1))), (1, .int (nI i)), (0, .ref (L 0))]) hx hb dX13_wisest_45 hl (k := 2) rfl (nI_1 _) (by decide) rfl (fun ls hl => ?_)
            refine lv_goto (tgt := 4) hx hb dX13_wisest_48 (by decide) ?_
            exact ih4 (i + 1) (by omega) (by omega) (nI i) (nI (i + 1)) (by rw [itr_s, wiS]; first | (rw [if_pos hm1]; done) | (simp [hm1, hj2, c_11, c_15, c_36]; done)) (rfl) ls (lv_sub hl [2, 1, 0] rfl)
  exact lp4 (_ + 1) (0) (Nat.zero_le _) (Nat.lt_succ_self _) (-1) 0 (rfl) (rfl) ls (lv_sub hl [2, 1, 0] rfl)
