/-! the model's reader: the plain law -/
def nL (n : Nat) : Int64 := Int64.ofNat n
theorem nL_bv (n : Nat) : (nL n).toBitVec = BitVec.ofNat 64 n := rfl
theorem nL_add (a b : Nat) : nL a + nL b = nL (a + b) := Int64.toBitVec_inj.mp (by rw [Int64.toBitVec_add, nL_bv, nL_bv, nL_bv, BitVec.ofNat_add])
theorem nL_mul (a b : Nat) : nL a * nL b = nL (a * b) := Int64.toBitVec_inj.mp (by rw [Int64.toBitVec_mul, nL_bv, nL_bv, nL_bv]; exact BitVec.eq_of_toNat_eq (by simp [Nat.mul_mod]))
theorem nL_toInt {a : Nat} (h : a < 2 ^ 63) : (nL a).toInt = a := Int64.toInt_ofNat_of_lt h
theorem nL_lt {a b : Nat} (ha : a < 2 ^ 63) (hb : b < 2 ^ 63) : nL a < nL b ↔ a < b := by
  rw [Int64.lt_iff_toInt_lt, nL_toInt ha, nL_toInt hb]; omega
theorem nL_eq {a b : Nat} (ha : a < 2 ^ 63) (hb : b < 2 ^ 63) : nL a = nL b ↔ a = b := by
  rw [← Int64.toInt_inj, nL_toInt ha, nL_toInt hb]; omega
theorem nI_L {q : Nat} (h : q < 2 ^ 31) : (nI q).toInt64 = nL q := Int64.toInt_inj.mp (by rw [Int32.toInt_toInt64, nI_toInt h, nL_toInt (by omega)])
theorem nL_i (v : Nat) : (nL v).toInt32 = nI v := Int32.toBitVec_inj.mp (by
  rw [Int64.toBitVec_toInt32, nL_bv, nI_bv, BitVec.signExtend_eq_setWidth_of_le _ (by decide)]
  exact BitVec.setWidth_ofNat_of_le (by decide) _)
theorem nL_sub {a b : Nat} (h : b ≤ a) : nL a - nL b = nL (a - b) := by
  have e : nL a = nL (a - b) + nL b := by rw [nL_add]; congr 1; omega
  rw [e]; exact Int64.add_sub_cancel _ _
theorem nL_sur (z : Int64) : ∃ j, z = nL j := ⟨z.toBitVec.toNat, Int64.toBitVec_inj.mp (by rw [nL_bv]; simp)⟩
def fI : Option Nat → Int32
  | none => -1
  | some b => nI b
theorem fI_lt {f : Option Nat} (h : ∀ b, f = some b → b ≤ 120) : fI f < 0 ↔ f = none := by
  cases f with
  | none => exact ⟨fun _ => rfl, fun _ => by decide⟩
  | some b => exact ⟨fun z => absurd z (nI_pos (by have := h b rfl; omega)), fun z => by cases z⟩
theorem fI_sur (z : Int32) : ∃ f, z = fI f := by
  obtain ⟨j, h⟩ := nI_sur z
  exact ⟨some j, h⟩
/-- world, at, from, sort (0 end, 1 word, 2 number, 3 semicolon, 4 odd), value, fault -/
abbrev ms : Type := wd × Nat × Nat × Nat × Nat × Option Nat
def ltN (tp : Nat → Int32) (j : Nat) : Nat := (tp j).toNatClampNeg - 96
def wvS (tp : Nat → Int32) (a : Nat) (i v : Nat) : Nat := if 100000000000000000 < v then v else 27 * v + ltN tp (a + i)
def wdV (tp : Nat → Int32) (a len : Nat) : Nat := itr (wvS tp a) 0 len
def nxM (tp : Nat → Int32) (n j : Nat) (w : wd) (f : Option Nat) : ms := if n = j then (w, j, j, 0, 0, f) else if tp j = 59 then (w, j + 1, j, 3, 0, f) else if ltB tp n j then (w, skB (ltB tp n) j, j, 1, wdV tp j (skB (ltB tp n) j - j), f) else if dgB tp n j then (w, skB (dgB tp n) j, j, 2, numV tp j (skB (dgB tp n) j - j), f) else (w, j, j, 4, 0, f)
def nextM (tp : Nat → Int32) (n : Nat) : ms → ms
  | (w, a, _, _, _, f) => nxM tp n (skB (spB tp n) a) w f
def wrM : ms → ms
  | (w, a, b, k, v, f) => (w, a, b, k, v, if f = none then some b else f)
def nuM (tp : Nat → Int32) (n h : Nat) : ms → Nat × ms
  | (w, a, b, k, v, f) => if k = 2 ∧ v < h then (v, nextM tp n (w, a, b, k, v, f)) else (0, wrM (w, a, b, k, v, f))
def peM2 (g r : Nat) : Nat × ms → ms
  | (z, w, a, b, k, v, f) => if f = none then (u2 w (2 + r) g (nI z), a, b, k, v, f) else (w, a, b, k, v, f)
def peM (tp : Nat → Int32) (n W g r h : Nat) : ms → ms
  | (w, a, b, k, v, f) => if f = none ∧ k = 1 ∧ v = W then peM2 g r (nuM tp n h (nextM tp n (w, a, b, k, v, f))) else (w, a, b, k, v, f)
def gl2 (tp : Nat → Int32) (n kd : Nat) : ms → ms
  | (w, a, b, k, v, f) => peM tp n 242911 (wN w) 4 10000 (peM tp n 6132988 (wN w) 3 65536 (peM tp n 307058 (wN w) 2 10 (peM tp n 257 (wN w) 1 6 (addw w (nI kd) 0, a, b, k, v, f))))
def glM (tp : Nat → Int32) (n kd : Nat) : ms → ms
  | (w, a, b, k, v, f) => if wN w = 8 then wrM (w, a, b, k, v, f) else gl2 tp n kd (nextM tp n (w, a, b, k, v, f))
def nuG (tp : Nat → Int32) (n h : Nat) : ms → Nat × ms
  | (w, a, b, k, v, f) => if f = none then nuM tp n h (w, a, b, k, v, f) else (0, w, a, b, k, v, f)
def sa2 (z1 z2 z3 : Nat) : Nat × ms → ms
  | (z4, w, a, b, k, v, f) => if f = none then (u2 w 0 z1 (syI (nI z2) (nI z3) (nI z4)), a, b, k, v, f) else (w, a, b, k, v, f)
def sa1 (tp : Nat → Int32) (n : Nat) (q1 : Nat × ms) : ms := sa2 q1.1 (nuG tp n 6 q1.2).1 (nuG tp n 16 (nuG tp n 6 q1.2).2).1 (nuG tp n 10 (nuG tp n 16 (nuG tp n 6 q1.2).2).2)
def saM (tp : Nat → Int32) (n : Nat) (s : ms) : ms := sa1 tp n (nuM tp n 6 (nextM tp n s))
def hyM (tp : Nat → Int32) (n : Nat) (q1 : Nat × ms) : ms := peM2 q1.1 5 (nuG tp n 65536 q1.2)
def hzM (tp : Nat → Int32) (n : Nat) : ms → ms
  | (w, a, b, k, v, f) => hyM tp n (nuM tp n (wN w) (w, a, b, k, v, f))
def haM (tp : Nat → Int32) (n : Nat) (s : ms) : ms := hzM tp n (nextM tp n s)
def kdN (k v : Nat) : Nat := if k = 1 ∧ v = 3967817 then 0 else if k = 1 ∧ v = 4393273559 then 1 else if k = 1 ∧ v = 191727149 then 2 else if k = 1 ∧ v = 237058 then 3 else if k = 1 ∧ v = 1489745 then 4 else if k = 1 ∧ v = 10497768 then 5 else if k = 1 ∧ v = 65782373 then 6 else 7
def kdR (k v : Nat) : Int32 := if kdN k v = 7 then -1 else nI (kdN k v)
def itM (tp : Nat → Int32) (n : Nat) : ms → ms
  | (w, a, b, k, v, f) => if kdN k v = 7 then (if k = 1 ∧ v = 374953 then saM tp n (w, a, b, k, v, f) else if k = 1 ∧ v = 158575 then haM tp n (w, a, b, k, v, f) else wrM (w, a, b, k, v, f)) else glM tp n (kdN k v) (w, a, b, k, v, f)
def enM : ms → ms
  | (w, a, b, k, v, f) => if f = none ∧ ¬ k = 0 then wrM (w, a, b, k, v, f) else (w, a, b, k, v, f)
def lpM (tp : Nat → Int32) (n : Nat) : Nat → Nat → ms → Nat × ms
  | 0, c, s => (c, s)
  | g + 1, c, (w, a, b, k, v, f) => if f = none ∧ k = 3 then lpM tp n g (c + 1) (itM tp n (nextM tp n (w, a, b, k, v, f))) else (c, enM (w, a, b, k, v, f))
def isM (tp : Nat → Int32) (n : Nat) : ms → Nat × ms
  | (w, _, b, k, v, _) => lpM tp n 200 1 (itM tp n (nextM tp n (w, 0, b, k, v, none)))
/-! what stays true -/
def msW (n : Nat) (s : ms) : Prop := wOk s.1 ∧ s.2.1 ≤ n ∧ ∀ b, s.2.2.2.2.2 = some b → b ≤ 120
def msOk (n : Nat) (s : ms) : Prop := wOk s.1 ∧ s.2.1 ≤ n ∧ s.2.2.1 ≤ 120 ∧ s.2.2.2.1 < 5 ∧ (s.2.2.2.1 = 2 → s.2.2.2.2.1 < 1000010) ∧ s.2.2.2.2.1 < 4611686018427387904 ∧ ∀ b, s.2.2.2.2.2 = some b → b ≤ 120
theorem msOk.w {n : Nat} {s : ms} (h : msOk n s) : msW n s := ⟨h.1, h.2.1, h.2.2.2.2.2.2⟩
theorem lt_tab : ∀ j, j < 256 → ¬ inI (nI j).toInt8.toInt32 97 122 = 0 → (nI j).toInt8.toInt32.toNatClampNeg - 96 < 27 ∧ 0 < (nI j).toInt8.toInt32.toNatClampNeg - 96 ∧ (nI j).toInt8.toInt32 - 97 + 1 = nI ((nI j).toInt8.toInt32.toNatClampNeg - 96) ∧ (nI j).toInt8.toInt32 = nI ((nI j).toInt8.toInt32.toNatClampNeg - 96 + 96) := by decide +kernel
theorem lt_all {v : Int32} (h : isBy v) (h2 : ¬ inI v 97 122 = 0) : v.toNatClampNeg - 96 < 27 ∧ 0 < v.toNatClampNeg - 96 ∧ v - 97 + 1 = nI (v.toNatClampNeg - 96) ∧ v = nI (v.toNatClampNeg - 96 + 96) := by
  obtain ⟨j, hj, rfl⟩ := isBy_ex h
  exact lt_tab j hj h2
theorem ltN_b {tp : Nat → Int32} {n j : Nat} (ht : tpOk tp) (hn : n ≤ 120) (h : ltB tp n j = true) : ltN tp j < 27 ∧ 0 < ltN tp j ∧ tp j - 97 + 1 = nI (ltN tp j) ∧ tp j = nI (ltN tp j + 96) := by
  obtain ⟨h1, h2⟩ := of_decide_eq_true h
  exact lt_all (ht j (by omega)) h2
theorem wd_b (tp : Nat → Int32) (a : Nat) : ∀ len, (∀ j, a ≤ j → j < a + len → ltN tp j < 27) → wdV tp a len < 2700000000000000027 := by
  intro len
  unfold wdV
  induction len with
  | zero => intro _; show 0 < 2700000000000000027; decide
  | succ n ih =>
    intro hd
    have ih := ih (fun j h1 h2 => hd j h1 (by omega))
    rw [itr_s, wvS]
    split
    · exact ih
    · have := hd (a + n) (by omega) (by omega); omega
theorem nextM_ok {tp : Nat → Int32} {n : Nat} {s : ms} (ht : tpOk tp) (hn : n ≤ 120) (hs : msW n s) : msOk n (nextM tp n s) ∧ (nextM tp n s).1 = s.1 ∧ (nextM tp n s).2.2.2.2.2 = s.2.2.2.2.2 ∧ s.2.1 ≤ (nextM tp n s).2.1 ∧ ((nextM tp n s).2.2.2.1 = 1 → s.2.1 < (nextM tp n s).2.1) := by
  obtain ⟨w, a, b, k, v, f⟩ := s
  obtain ⟨h1, h2, h3⟩ := hs
  obtain ⟨k1, k2, k3, k4⟩ := sk_sp (P := spB tp n) spB_lt h2 hn
  show msOk n (nxM tp n (skB (spB tp n) a) w f) ∧ (nxM tp n (skB (spB tp n) a) w f).1 = w ∧ (nxM tp n (skB (spB tp n) a) w f).2.2.2.2.2 = f ∧ a ≤ (nxM tp n (skB (spB tp n) a) w f).2.1 ∧ ((nxM tp n (skB (spB tp n) a) w f).2.2.2.1 = 1 → a < (nxM tp n (skB (spB tp n) a) w f).2.1)
  have k1 : a ≤ skB (spB tp n) a := k1
  have k2 : skB (spB tp n) a ≤ n := k2
  generalize skB (spB tp n) a = j at k1 k2 k3 k4
  unfold nxM
  by_cases c1 : n = j
  · rw [if_pos c1]
    exact ⟨⟨h1, k2, (by show j ≤ 120; omega), (by show 0 < 5; decide), (fun q => by cases q), (by show 0 < 4611686018427387904; decide), h3⟩, rfl, rfl, k1, fun q => by cases q⟩
  · rw [if_neg c1]
    by_cases c2 : tp j = 59
    · rw [if_pos c2]
      exact ⟨⟨h1, (by show j + 1 ≤ n; omega), (by show j ≤ 120; omega), (by show 3 < 5; decide), (fun q => by cases q), (by show 0 < 4611686018427387904; decide), h3⟩, rfl, rfl, (by show a ≤ j + 1; omega), fun q => by cases q⟩
    · rw [if_neg c2]
      cases c3 : ltB tp n j with
      | true =>
        rw [if_pos rfl]
        obtain ⟨e1, e2, e3, e4⟩ := sk_sp (P := ltB tp n) ltB_lt k2 hn
        have e5 : j < skB (ltB tp n) j := Nat.lt_of_le_of_ne e1 (fun q => by rw [← q, c3] at e4; cases e4)
        have e6 := wd_b tp j (skB (ltB tp n) j - j) (fun i g1 g2 => (ltN_b ht hn (e3 i g1 (by omega))).1)
        exact ⟨⟨h1, e2, (by show j ≤ 120; omega), (by show 1 < 5; decide), (fun q => by cases q), (by show wdV tp j (skB (ltB tp n) j - j) < 4611686018427387904; omega), h3⟩, rfl, rfl, (by show a ≤ skB (ltB tp n) j; omega), fun _ => by show a < skB (ltB tp n) j; omega⟩
      | false =>
        rw [if_neg (by decide)]
        cases c4 : dgB tp n j with
        | true =>
          rw [if_pos rfl]
          obtain ⟨e1, e2, e3, e4⟩ := sk_sp (P := dgB tp n) dgB_lt k2 hn
          have e6 := nu_b tp j (skB (dgB tp n) j - j) (fun i g1 g2 => (by_dv ht hn (e3 i g1 (by omega))).2)
          exact ⟨⟨h1, e2, (by show j ≤ 120; omega), (by show 2 < 5; decide), (fun _ => e6), (by show numV tp j (skB (dgB tp n) j - j) < 4611686018427387904; omega), h3⟩, rfl, rfl, (by show a ≤ skB (dgB tp n) j; omega), fun q => by cases q⟩
        | false =>
          rw [if_neg (by decide)]
          exact ⟨⟨h1, k2, (by show j ≤ 120; omega), (by show 4 < 5; decide), (fun q => by cases q), (by show 0 < 4611686018427387904; decide), h3⟩, rfl, rfl, k1, fun q => by cases q⟩
theorem wrM_ok {n : Nat} {s : ms} (hs : msOk n s) : msOk n (wrM s) := by
  obtain ⟨w, a, b, k, v, f⟩ := s
  obtain ⟨h1, h2, h3, h4, h5, h6, h7⟩ := hs
  refine ⟨h1, h2, h3, h4, h5, h6, ?_⟩
  show ∀ b', (if f = none then some b else f) = some b' → b' ≤ 120
  intro b' e
  split at e
  · cases e; exact h3
  · exact h7 b' e
theorem nuM_ok {tp : Nat → Int32} {n h : Nat} {s : ms} (ht : tpOk tp) (hn : n ≤ 120) (hs : msOk n s) : msOk n (nuM tp n h s).2 ∧ (nuM tp n h s).2.1 = s.1 ∧ ((nuM tp n h s).1 = 0 ∨ (nuM tp n h s).1 < h) ∧ s.2.1 ≤ (nuM tp n h s).2.2.1 := by
  obtain ⟨w, a, b, k, v, f⟩ := s
  show msOk n (if k = 2 ∧ v < h then (v, nextM tp n (w, a, b, k, v, f)) else (0, wrM (w, a, b, k, v, f))).2 ∧ (if k = 2 ∧ v < h then (v, nextM tp n (w, a, b, k, v, f)) else (0, wrM (w, a, b, k, v, f))).2.1 = w ∧ ((if k = 2 ∧ v < h then (v, nextM tp n (w, a, b, k, v, f)) else (0, wrM (w, a, b, k, v, f))).1 = 0 ∨ (if k = 2 ∧ v < h then (v, nextM tp n (w, a, b, k, v, f)) else (0, wrM (w, a, b, k, v, f))).1 < h) ∧ a ≤ (if k = 2 ∧ v < h then (v, nextM tp n (w, a, b, k, v, f)) else (0, wrM (w, a, b, k, v, f))).2.2.1
  by_cases c : k = 2 ∧ v < h
  · rw [if_pos c]
    obtain ⟨g1, g2, g3, g4, g5⟩ := nextM_ok ht hn hs.w
    exact ⟨g1, g2, Or.inr c.2, g4⟩
  · rw [if_neg c]
    exact ⟨wrM_ok hs, rfl, Or.inl rfl, Nat.le_refl _⟩
