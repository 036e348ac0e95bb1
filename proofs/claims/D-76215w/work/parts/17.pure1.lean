/-! plain: worlds stay good through a day -/
theorem nI_bv (n : Nat) : (nI n).toBitVec = BitVec.ofNat 32 n := rfl
theorem i32_ext {a b : Int32} (h : a.toBitVec = b.toBitVec) : a = b := Int32.toBitVec_inj.mp h
theorem nI_of32 (x : Int32) : x = nI x.toBitVec.toNat := i32_ext (by rw [nI_bv]; simp)
theorem nI_or (a b : Nat) : nI a ||| nI b = nI (a ||| b) := i32_ext (by rw [Int32.toBitVec_or, nI_bv, nI_bv, nI_bv, BitVec.ofNat_or])
theorem nI_and (a b : Nat) : nI a &&& nI b = nI (a &&& b) := i32_ext (by rw [Int32.toBitVec_and, nI_bv, nI_bv, nI_bv, BitVec.ofNat_and])
theorem isN_or {a b : Int32} {k : Nat} (h1 : isN a (2 ^ k)) (h2 : isN b (2 ^ k)) : isN (a ||| b) (2 ^ k) := by
  obtain ⟨i, hi, rfl⟩ := h1
  obtain ⟨j, hj, rfl⟩ := h2
  exact ⟨i ||| j, Nat.or_lt_two_pow hi hj, nI_or i j⟩
theorem isN_and {a : Int32} {n : Nat} (m : Int32) (h1 : isN a n) : isN (a &&& m) n := by
  obtain ⟨i, hi, rfl⟩ := h1
  rw [nI_of32 m, nI_and]
  exact ⟨_, Nat.lt_of_le_of_lt Nat.and_le_left hi, rfl⟩
theorem isN_0 {n : Nat} (h : 0 < n) : isN 0 n := ⟨0, h, rfl⟩
theorem isN_mono {a : Int32} {m n : Nat} (h : isN a m) (hmn : m ≤ n) : isN a n := by
  obtain ⟨i, hi, e⟩ := h
  exact ⟨i, by omega, e⟩
theorem b1_nI : ∀ k, k < 31 → (1 : Int32) <<< (nI k &&& 31) = nI (2 ^ k) := by decide +kernel
theorem isN_b1 {t : Int32} (h : isN t 16) : isN ((1 : Int32) <<< (t &&& 31)) (2 ^ 16) := by
  obtain ⟨i, hi, rfl⟩ := h
  rw [b1_nI i (by omega)]
  exact ⟨_, Nat.pow_lt_pow_right (by decide) hi, rfl⟩
theorem isN_ln {kn t kp : Int32} (h1 : isN kn 65536) (h2 : isN t 16) : isN (lnI kn t kp) 65536 := by
  have h3 : isN (kn ||| ((1 : Int32) <<< (t &&& 31))) (2 ^ 16) := isN_or h1 (isN_b1 h2)
  unfold lnI
  simp only
  by_cases h : kp < bcI (kn ||| ((1 : Int32) <<< (t &&& 31)))
  · rw [if_pos h]; exact isN_and _ h3
  · rw [if_neg h]; exact h3
theorem isN_mn {v : Int32} (h : isN v 10000) : isN (mnI 9999 (v + 1)) 10000 := by
  obtain ⟨i, hi, rfl⟩ := h
  unfold mnI
  rw [nI_1]
  by_cases h : nI (i + 1) < 9999
  · rw [if_pos h]
    have : i + 1 < 9999 := (nlt (a := i + 1) (b := 9999) rfl rfl (by omega) (by omega)).mp h
    exact ⟨i + 1, by omega, rfl⟩
  · rw [if_neg h]; exact ⟨9999, by omega, rfl⟩
theorem isN_rm {v : Int32} (h : isN v 6) : isN (v + 1 - (v + 1) / 6 * 6) 6 := by
  obtain ⟨i, hi, rfl⟩ := h
  rw [nI_1, show (6 : Int32) = nI 6 from rfl, pk_rem (by omega) (by decide) (by decide)]
  exact ⟨_, Nat.mod_lt _ (by decide), rfl⟩
theorem sOk.tp {v : Int32} (h : sOk v) : isN (tpI v) 16 ∧ isN (rmI v) 6 ∧ isN (ldI v) 10 := by
  obtain ⟨a, b, c, ha, hb, hc, rfl⟩ := h
  unfold tpI rmI ldI
  rw [show (1000 : Int32) = nI 1000 from rfl, show (10 : Int32) = nI 10 from rfl, pk_rem (by omega) (by decide) (by decide), pk_div (by omega) (by decide) (by decide), pk_div (by omega) (by decide) (by decide), pk_rem (by omega) (by decide) (by decide)]
  exact ⟨⟨_, by omega, rfl⟩, ⟨_, by omega, rfl⟩, ⟨_, by omega, rfl⟩⟩
theorem gOk.ext {f g : wd} {k : Nat} (h : gOk f k) (e : ∀ r, 2 ≤ r → r < 9 → g r k = f r k) : gOk g k := by
  unfold gOk
  rw [e 2 (by decide) (by decide), e 3 (by decide) (by decide), e 4 (by decide) (by decide), e 5 (by decide) (by decide), e 6 (by decide) (by decide), e 7 (by decide) (by decide), e 8 (by decide) (by decide)]
  exact h
theorem gOk_ln {f : wd} {k j : Nat} {t kp : Int32} (h : gOk f j) (ht : isN t 16) : gOk (lnw f k t kp) j := by
  obtain ⟨h2, h3, h4, h5, h6, h7, h8⟩ := h
  unfold gOk lnw
  rw [u2_ne (show 2 ≠ 2 + 3 by decide), u2_ne (show 3 ≠ 2 + 3 by decide), u2_ne (show 4 ≠ 2 + 3 by decide), u2_ne (show 6 ≠ 2 + 3 by decide), u2_ne (show 7 ≠ 2 + 3 by decide), u2_ne (show 8 ≠ 2 + 3 by decide), u2_at]
  refine ⟨h2, h3, h4, ?_, h6, h7, h8⟩
  by_cases e : 5 = 2 + 3 ∧ j = k
  · rw [if_pos e]
    obtain ⟨-, rfl⟩ := e
    exact isN_ln h5 ht
  · rw [if_neg e]; exact h5
theorem gOk_u {f : wd} {r k j : Nat} {v : Int32} (h : gOk f j) (hv : j = k → isN v (match r with | 2 => 7 | 3 => 6 | 4 => 10 | 5 => 65536 | 6 => 10000 | 7 => 65536 | 8 => 10000 | _ => 1000000000)) : gOk (u2 f r k v) j := by
  by_cases hj : j = k
  · have hv2 := hv hj
    subst hj
    obtain ⟨h2, h3, h4, h5, h6, h7, h8⟩ := h
    unfold gOk
    simp only [u2_at, and_true]
    refine ⟨?_, ?_, ?_, ?_, ?_, ?_, ?_⟩
    · by_cases e : 2 = r
      · subst e; rw [if_pos rfl]; exact hv2
      · rw [if_neg e]; exact h2
    · by_cases e : 3 = r
      · subst e; rw [if_pos rfl]; exact hv2
      · rw [if_neg e]; exact h3
    · by_cases e : 4 = r
      · subst e; rw [if_pos rfl]; exact hv2
      · rw [if_neg e]; exact h4
    · by_cases e : 5 = r
      · subst e; rw [if_pos rfl]; exact hv2
      · rw [if_neg e]; exact h5
    · by_cases e : 6 = r
      · subst e; rw [if_pos rfl]; exact hv2
      · rw [if_neg e]; exact h6
    · by_cases e : 7 = r
      · subst e; rw [if_pos rfl]; exact hv2
      · rw [if_neg e]; exact h7
    · by_cases e : 8 = r
      · subst e; rw [if_pos rfl]; exact hv2
      · rw [if_neg e]; exact h8
  · exact h.ext (fun q _ _ => by rw [u2_at, if_neg (fun z => hj z.2)])
theorem gOk_isd {f : wd} {k j : Nat} (h : gOk f j) : gOk (isdw f k) j := by
  unfold isdw
  simp only
  have h5 : gOk (u2 f (2 + 5) k (f (2 + 5) k ||| f (2 + 3) k)) j := gOk_u h (fun e => by subst e; exact isN_or (k := 16) h.2.2.2.2.2.1 h.2.2.2.1)
  have h3 := gOk_u (r := 2 + 3) (k := k) (v := 0) h5 (fun _ => isN_0 (by decide))
  have h4 := gOk_u (r := 2 + 4) (k := k) (v := 0) h3 (fun _ => isN_0 (by decide))
  have h6 := gOk_u (r := 2 + 6) (k := k) (v := mnI 9999 (u2 (u2 (u2 f (2 + 5) k (f (2 + 5) k ||| f (2 + 3) k)) (2 + 3) k 0) (2 + 4) k 0 (2 + 6) k + 1)) h4 (fun e => by subst e; exact isN_mn h4.2.2.2.2.2.2)
  exact gOk_u h6 (fun e => by subst e; exact isN_rm h6.2.1)
theorem gOk_li {f : wd} {k j : Nat} {st : Int32} (h : gOk f j) : gOk (liw f k st) j := by
  unfold liw
  simp only
  have h1 : gOk (u2 f (2 + 4) k (mnI 9999 (f (2 + 4) k + 1))) j := gOk_u h (fun e => by subst e; exact isN_mn h.2.2.2.2.1)
  by_cases a : 0 < st
  · rw [if_pos a]
    by_cases b : u2 f (2 + 4) k (mnI 9999 (f (2 + 4) k + 1)) (2 + 4) k < st
    · rw [if_pos b]; exact h1
    · rw [if_neg b]; exact gOk_isd h1
  · rw [if_neg a]; exact h1
theorem wOk.now {f : wd} (h : wOk f) : sOk (nwI f) := h.2.2.1 _ (Nat.mod_lt _ (by decide))
theorem gOk_ps1 {f : wd} (h : wOk f) {j : Nat} (hj : j < 8) (i : Nat) : gOk (psw1 f i) j := by
  induction i with
  | zero => exact h.2.1 j hj
  | succ i ih =>
    unfold psw1 at ih ⊢
    rw [itr_s, lnS]
    by_cases e : hsI (heI f (nwI f)) (nI i) = 0
    · rw [if_pos e]; exact ih
    · rw [if_neg e]; exact gOk_ln ih h.now.tp.1
theorem gOk_ps2 {f : wd} (h : wOk f) {j : Nat} (hj : j < 8) (i : Nat) : gOk (psw2 f i) j := by
  induction i with
  | zero => exact gOk_ps1 h hj _
  | succ i ih =>
    unfold psw2 at ih ⊢
    rw [itr_s, liS]
    by_cases e : hsI (f 1 1) (nI i) = 0
    · rw [if_pos e]; exact gOk_li ih
    · rw [if_neg e]; exact ih
theorem psw_r (f : wd) (r : Nat) (hr : r = 0 ∨ r = 2 ∨ r = 4 ∨ 8 < r) : psw f r = f r := by
  unfold psw
  rw [u2_ne (by omega), psw2_r _ _ _ (by omega)]
theorem psw_1 (f : wd) (c : Nat) (hc : c ≠ 2) : psw f 1 c = f 1 c := by
  unfold psw
  rw [u2_at, if_neg (fun z => hc z.2), psw2_r _ _ _ (by decide)]
theorem psw_day (f : wd) : psw f 1 2 = f 1 2 + 1 := by
  unfold psw
  rw [u2_at, if_pos ⟨rfl, rfl⟩]
theorem wOk_psw {f : wd} (h : wOk f) (hd : isN (f 1 2) 999999) : wOk (psw f) := by
  refine ⟨?_, fun k hk => ?_, fun i hi => ?_, ?_, fun k hk => ?_⟩
  · rw [psw_1 f 0 (by decide)]; exact h.1
  · refine (gOk_ps2 h hk (wN f)).ext (fun r h1 h2 => ?_)
    unfold psw
    rw [u2_ne (by omega)]
  · rw [psw_r f 0 (by decide)]; exact h.2.2.1 i hi
  · rw [psw_day]
    obtain ⟨δ, hδ, e⟩ := hd
    exact ⟨δ + 1, by omega, by rw [e, nI_1]⟩
  · rw [psw_r f 9 (by decide)]; exact h.2.2.2.2 k hk
/-- so many days -/
def psn (f : wd) (n : Nat) : wd := itr (fun _ g => psw g) f n
theorem psn_day (f : wd) {δ : Nat} (h : f 1 2 = nI δ) (n : Nat) : psn f n 1 2 = nI (δ + n) := by
  induction n with
  | zero => exact h
  | succ n ih =>
    show psw (psn f n) 1 2 = _
    rw [psw_day, ih, nI_1, Nat.add_assoc]
theorem wOk_psn {f : wd} (h : wOk f) (hd : isN (f 1 2) 10000) : ∀ n, n ≤ 1000 → wOk (psn f n) := by
  intro n
  obtain ⟨δ, hδ, e⟩ := hd
  induction n with
  | zero => intro _; exact h
  | succ n ih =>
    intro hn
    exact wOk_psw (ih (by omega)) ⟨δ + n, by omega, psn_day f e n⟩
