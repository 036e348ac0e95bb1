/-! bits by natural numbers -/
theorem itr_congr {α : Type} {g h : Nat → α → α} {a : α} {n : Nat} (H : ∀ k, k < n → ∀ b, g k b = h k b) : itr g a n = itr h a n := by
  induction n with
  | zero => rfl
  | succ n ih => rw [itr_s, itr_s, ih (fun k hk => H k (by omega)), H n (by omega)]
theorem and1_01 (a : Int32) : a &&& 1 = 0 ∨ a &&& 1 = 1 := by
  rw [pk_and a (m := 1) 1 (by decide)]
  rcases Nat.mod_two_eq_zero_or_one a.toBitVec.toNat with h | h
  · left; show nI (_ % 2) = 0; rw [h]; rfl
  · right; show nI (_ % 2) = 1; rw [h]; rfl
theorem hs_0 {a k : Int32} : hsI a k = 0 ↔ (a >>> (k &&& 31)) &&& 1 = 0 := by
  unfold hsI
  rcases and1_01 (a >>> (k &&& 31)) with h | h
  · rw [h]; simp
  · rw [h]; simp
theorem hs_1 {a k : Int32} : ¬ hsI a k = 0 ↔ (a >>> (k &&& 31)) &&& 1 = 1 := by
  unfold hsI
  rcases and1_01 (a >>> (k &&& 31)) with h | h
  · rw [h]; simp
  · rw [h]; simp
theorem hs_n0 {a k : Int32} : ¬ ((a >>> (k &&& 31)) &&& 1 = 1) ↔ hsI a k = 0 := by
  rw [← hs_1, Classical.not_not]
theorem hs_n1 {a k : Int32} : ¬ ((a >>> (k &&& 31)) &&& 1 = 0) ↔ ¬ hsI a k = 0 := by
  rw [← hs_0]
theorem sh_k : ∀ k, k < 31 → ((nI k &&& 31).toBitVec.smod 32).toNat = k := by decide +kernel
theorem bit_n {m k : Nat} (hm : m < 2 ^ 31) (hk : k < 31) : (nI m >>> (nI k &&& 31)) &&& 1 = nI (m / 2 ^ k % 2) := by
  rw [pk_shrN hm _ k (sh_k k hk), pk_andN (m := 1) (n := m / 2 ^ k) (by have := Nat.div_le_self m (2 ^ k); omega) 1 (by decide)]
theorem bit_t (m k : Nat) : m.testBit k = decide (m / 2 ^ k % 2 = 1) := Nat.testBit_eq_decide_div_mod_eq
theorem bit_v (m k : Nat) : m / 2 ^ k % 2 = if m.testBit k then 1 else 0 := by
  rw [bit_t]
  rcases Nat.mod_two_eq_zero_or_one (m / 2 ^ k) with h | h <;> rw [h] <;> simp
theorem hs_t {m k : Nat} (hm : m < 2 ^ 31) (hk : k < 31) : hsI (nI m) (nI k) = if m.testBit k then 1 else 0 := by
  unfold hsI
  rw [bit_n hm hk, bit_v]
  by_cases h : m.testBit k
  · rw [if_pos h, if_pos h]; rfl
  · rw [if_neg h, if_neg h]; rfl
/-- a set out of a test -/
def orN (P : Nat → Bool) : Nat → Nat
  | 0 => 0
  | n + 1 => orN P n ||| (if P n then 2 ^ n else 0)
theorem orN_bit (P : Nat → Bool) (n j : Nat) : (orN P n).testBit j = (decide (j < n) && P j) := by
  induction n with
  | zero => simp [orN]
  | succ n ih =>
    rw [orN, Nat.testBit_or, ih]
    by_cases hP : P n
    · rw [if_pos hP, Nat.testBit_two_pow]
      by_cases h : n = j
      · subst h; simp [hP]
      · have e1 : decide (n = j) = false := decide_eq_false h
        rw [e1, Bool.or_false]
        by_cases h2 : j < n
        · simp [h2, show j < n + 1 by omega]
        · simp [h2, show ¬ j < n + 1 by omega]
    · rw [if_neg hP, Nat.zero_testBit, Bool.or_false]
      by_cases h : n = j
      · subst h; simp [hP]
      · by_cases h2 : j < n
        · simp [h2, show j < n + 1 by omega]
        · simp [h2, show ¬ j < n + 1 by omega]
theorem orN_lt (P : Nat → Bool) (n : Nat) : orN P n < 2 ^ n := by
  refine Nat.lt_pow_two_of_testBit _ (fun i hi => ?_)
  rw [orN_bit, decide_eq_false (by omega), Bool.false_and]
theorem itr_or {P : Nat → Bool} {g : Nat → Int32 → Int32} {n : Nat} (hn : n ≤ 31) (hg : ∀ k, k < n → ∀ a, g k a = a ||| (if P k then b1 k else 0)) : itr g 0 n = nI (orN P n) := by
  induction n with
  | zero => rfl
  | succ n ih =>
    rw [itr_s, ih (by omega) (fun k hk => hg k (by omega)), hg n (by omega), orN]
    by_cases h : P n
    · rw [if_pos h, if_pos h, b1, b1_nI n (by omega), nI_or]
    · rw [if_neg h, if_neg h, show (0 : Int32) = nI 0 from rfl, nI_or]
theorem hs_or {P : Nat → Bool} {n k : Nat} (hn : n ≤ 30) (hk : k < n) : hsI (nI (orN P n)) (nI k) = if P k then 1 else 0 := by
  rw [hs_t (Nat.lt_of_lt_of_le (orN_lt P n) (Nat.pow_le_pow_right (by decide) (by omega))) (by omega), orN_bit, decide_eq_true hk, Bool.true_and]
/-- whether one is there, in a room -/
def isiI (f : wd) (k : Nat) (room : Int32) : Int32 := if hsI (f 1 1) (nI k) = 0 then (if f (2 + 1) k = room then 1 else 0) else 0
theorem isiI_01 (f : wd) (k : Nat) (room : Int32) : isiI f k room = 0 ∨ isiI f k room = 1 := by
  unfold isiI; split
  · split
    · exact Or.inr rfl
    · exact Or.inl rfl
  · exact Or.inl rfl
def isiB (f : wd) (room : Int32) (k : Nat) : Bool := decide (isiI f k room = 1)
theorem wh_or (f : wd) (room : Int32) {n : Nat} (hn : n ≤ 31) : itr (whS f room) 0 n = nI (orN (isiB f room) n) := by
  refine itr_or hn (fun k hk a => ?_)
  unfold whS isiB isiI
  by_cases h1 : hsI (f 1 1) (nI k) = 0
  · by_cases h2 : f (2 + 1) k = room
    · simp [h1, h2]
    · simp [h1, h2]
  · simp [h1]
theorem hs_wh (f : wd) (room : Int32) {k : Nat} (h8 : wN f ≤ 8) (hk : k < wN f) : hsI (whI f room) (nI k) = isiI f k room := by
  rw [whI, wh_or f room (by omega), hs_or (by omega) hk, isiB]
  rcases isiI_01 f k room with h | h <;> rw [h] <;> rfl
/-- nobody else there -/
theorem wh_alone (f : wd) (room : Int32) {k : Nat} (h8 : wN f ≤ 8) (hk : k < 8) : whI f room &&& ((1 : Int32) <<< (nI k &&& 31) ^^^ (-1)) = 0 ↔ ∀ o, o < wN f → o ≠ k → isiI f o room = 0 := by
  have hl := orN_lt (isiB f room) (wN f)
  have hl2 : orN (isiB f room) (wN f) < 2 ^ 8 := Nat.lt_of_lt_of_le hl (Nat.pow_le_pow_right (by decide) h8)
  have e1 : whI f room &&& ((1 : Int32) <<< (nI k &&& 31) ^^^ (-1)) = nI (orN (isiB f room) (wN f) &&& (2 ^ k ^^^ 4294967295)) := by
    rw [whI, wh_or f room (by omega), b1_nI k (by omega), ← nI_and]
    congr 1
    exact i32_ext (by rw [Int32.toBitVec_xor, nI_bv, nI_bv, BitVec.ofNat_xor]; rfl)
  have hlt : orN (isiB f room) (wN f) &&& (2 ^ k ^^^ 4294967295) < 2 ^ 31 := Nat.lt_of_le_of_lt Nat.and_le_left (by omega)
  have hz : whI f room &&& ((1 : Int32) <<< (nI k &&& 31) ^^^ (-1)) = 0 ↔ orN (isiB f room) (wN f) &&& (2 ^ k ^^^ 4294967295) = 0 := by
    rw [e1]; exact nI_eq (b := 0) hlt (by decide)
  have hm : ∀ j, j < 32 → (4294967295 : Nat).testBit j = true := by decide +kernel
  have hb : ∀ j, j < 32 → (orN (isiB f room) (wN f) &&& (2 ^ k ^^^ 4294967295)).testBit j = (decide (j < wN f) && isiB f room j && !decide (k = j)) := by
    intro j hj
    rw [Nat.testBit_and, orN_bit, Nat.testBit_xor, Nat.testBit_two_pow, hm j hj]
    cases decide (k = j) <;> rfl
  rw [hz]
  constructor
  · intro h o ho hne
    have h2 := hb o (by omega)
    rw [h, Nat.zero_testBit, decide_eq_true ho, decide_eq_false (fun q => hne q.symm)] at h2
    simp [isiB] at h2
    exact (isiI_01 f o room).resolve_right h2
  · intro h
    refine Nat.eq_of_testBit_eq (fun j => ?_)
    rw [Nat.zero_testBit]
    by_cases hj : j < 32
    · rw [hb j hj]
      by_cases h1 : j < wN f
      · by_cases h2 : k = j
        · simp [h2]
        · have := h j h1 (fun q => h2 q.symm)
          simp [isiB, this]
      · simp [h1]
    · exact Nat.testBit_lt_two_pow (Nat.lt_of_lt_of_le hlt (Nat.pow_le_pow_right (by decide) (by omega)))
theorem hs_all {n k : Nat} (hn : n ≤ 30) (hk : k < n) : hsI (nI (2 ^ n - 1)) (nI k) = 1 := by
  have h := Nat.pow_le_pow_right (show 0 < 2 by decide) hn
  rw [hs_t (by omega) (by omega), Nat.testBit_two_pow_sub_one, decide_eq_true hk]
  rfl
theorem kn_all (f : wd) (r : Nat) {n : Nat} (hn : f 1 0 = nI n) (h8 : n ≤ 8) : knI f r 255 = knI f r (allI f) := by
  have hN : wN f = n := by unfold wN; rw [hn, nI_clamp (by omega)]
  unfold knI
  refine itr_congr (fun k hk a => ?_)
  unfold knS
  rw [(all_nat hn h8).1, hs_all (by omega) (by omega), show (255 : Int32) = nI (2 ^ 8 - 1) from rfl, hs_all (by omega) (by omega)]
/-! ones -/
def onS (v : Int32) (k : Nat) (a : Int32) : Int32 := a + ((v >>> (nI k &&& 31)) &&& 1)
def onI (v : Int32) : Int32 := itr (onS v) 0 16
def onN (n : Nat) : Nat := n % 2 + n / 2 % 2 + n / 4 % 2 + n / 8 % 2 + n / 16 % 2 + n / 32 % 2 + n / 64 % 2 + n / 128 % 2 + n / 256 % 2 + n / 512 % 2 + n / 1024 % 2 + n / 2048 % 2 + n / 4096 % 2 + n / 8192 % 2 + n / 16384 % 2 + n / 32768 % 2
theorem on_nat {n : Nat} (h : n < 65536) : onI (nI n) = nI (onN n) := by
  unfold onI
  simp only [itr, onS]
  simp only [bit_n (m := n) (by omega) (show 0 < 31 by decide), bit_n (m := n) (by omega) (show 1 < 31 by decide), bit_n (m := n) (by omega) (show 2 < 31 by decide), bit_n (m := n) (by omega) (show 3 < 31 by decide), bit_n (m := n) (by omega) (show 4 < 31 by decide), bit_n (m := n) (by omega) (show 5 < 31 by decide), bit_n (m := n) (by omega) (show 6 < 31 by decide), bit_n (m := n) (by omega) (show 7 < 31 by decide), bit_n (m := n) (by omega) (show 8 < 31 by decide), bit_n (m := n) (by omega) (show 9 < 31 by decide), bit_n (m := n) (by omega) (show 10 < 31 by decide), bit_n (m := n) (by omega) (show 11 < 31 by decide), bit_n (m := n) (by omega) (show 12 < 31 by decide), bit_n (m := n) (by omega) (show 13 < 31 by decide), bit_n (m := n) (by omega) (show 14 < 31 by decide), bit_n (m := n) (by omega) (show 15 < 31 by decide)]
  rw [show (0 : Int32) = nI 0 from rfl]
  simp only [nI_add]
  unfold onN
  congr 1
  simp only [Nat.pow_zero, Nat.div_one, Nat.zero_add, Nat.pow_one, show 2 ^ 2 = 4 from rfl, show 2 ^ 3 = 8 from rfl, show 2 ^ 4 = 16 from rfl, show 2 ^ 5 = 32 from rfl, show 2 ^ 6 = 64 from rfl, show 2 ^ 7 = 128 from rfl, show 2 ^ 8 = 256 from rfl, show 2 ^ 9 = 512 from rfl, show 2 ^ 10 = 1024 from rfl, show 2 ^ 11 = 2048 from rfl, show 2 ^ 12 = 4096 from rfl, show 2 ^ 13 = 8192 from rfl, show 2 ^ 14 = 16384 from rfl, show 2 ^ 15 = 32768 from rfl]
def bcA (n : Nat) : Nat := n - (n / 2 &&& 1431655765)
def bcB (a : Nat) : Nat := (a &&& 858993459) + (a / 4 &&& 858993459)
def bcC (b : Nat) : Nat := (b + b / 16) &&& 252645135
def bcD (c : Nat) : Nat := c + c / 256
def bcE (d : Nat) : Nat := (d + d / 65536) &&& 63
def bcN (n : Nat) : Nat := bcE (bcD (bcC (bcB (bcA n))))
theorem bc_nat {n : Nat} (h : n < 65536) : bcI (nI n) = nI (bcN n) := by
  have ha : bcA n ≤ n := Nat.sub_le _ _
  have hb : bcB (bcA n) ≤ 131072 := by
    have h1 : (bcA n &&& 858993459) ≤ bcA n := Nat.and_le_left
    have h2 : (bcA n / 4 &&& 858993459) ≤ bcA n / 4 := Nat.and_le_left
    unfold bcB; omega
  have hc : bcC (bcB (bcA n)) ≤ 262144 := by
    have h1 : bcC (bcB (bcA n)) ≤ bcB (bcA n) + bcB (bcA n) / 16 := Nat.and_le_left
    omega
  have hd : bcD (bcC (bcB (bcA n))) ≤ 524288 := by unfold bcD; omega
  have e1 : nI n - (((nI n).toUInt32 >>> ((1 : Int32).toUInt32 &&& Int32.toUInt32 31)).toInt32 &&& 1431655765) = nI (bcA n) := by
    rw [pk_ushrN (by omega) 1 1 (by decide), show (1431655765 : Int32) = nI 1431655765 from rfl, nI_and, pk_sub (Nat.le_trans Nat.and_le_left (Nat.div_le_self _ _))]
    rfl
  have e2 : (nI (bcA n) &&& 858993459) + (((nI (bcA n)).toUInt32 >>> ((2 : Int32).toUInt32 &&& Int32.toUInt32 31)).toInt32 &&& 858993459) = nI (bcB (bcA n)) := by
    rw [pk_ushrN (by omega) 2 2 (by decide), show (858993459 : Int32) = nI 858993459 from rfl, nI_and, nI_and, nI_add]
    rfl
  have e3 : ∀ b : Nat, b ≤ 131072 → (nI b + ((nI b).toUInt32 >>> ((4 : Int32).toUInt32 &&& Int32.toUInt32 31)).toInt32) &&& 252645135 = nI (bcC b) := by
    intro b hb
    rw [pk_ushrN (by omega) 4 4 (by decide), show (252645135 : Int32) = nI 252645135 from rfl, nI_add, nI_and]
    rfl
  have e4 : ∀ c : Nat, c ≤ 262144 → nI c + ((nI c).toUInt32 >>> ((8 : Int32).toUInt32 &&& Int32.toUInt32 31)).toInt32 = nI (bcD c) := by
    intro c hc
    rw [pk_ushrN (by omega) 8 8 (by decide), nI_add]
    rfl
  have e5 : ∀ d : Nat, d ≤ 524288 → (nI d + ((nI d).toUInt32 >>> ((16 : Int32).toUInt32 &&& Int32.toUInt32 31)).toInt32) &&& 63 = nI (bcE d) := by
    intro d hd
    rw [pk_ushrN (by omega) 16 16 (by decide), show (63 : Int32) = nI 63 from rfl, nI_add, nI_and]
    rfl
  unfold bcI
  simp only []
  rw [e1, e2, e3 _ hb, e4 _ hc, e5 _ hd]
  rfl
theorem and_split (x y m k : Nat) (hy : y < 256) (hk : k < 256) : (256 * x + y) &&& (256 * m + k) = 256 * (x &&& m) + (y &&& k) := by
  have h1 : ((256 * x + y) &&& (256 * m + k)) / 256 = x &&& m := by
    rw [show (256 : Nat) = 2 ^ 8 from rfl, Nat.and_div_two_pow, show (2 ^ 8 * x + y) / 2 ^ 8 = x by omega, show (2 ^ 8 * m + k) / 2 ^ 8 = m by omega]
  have h2 : ((256 * x + y) &&& (256 * m + k)) % 256 = y &&& k := by
    rw [show (256 : Nat) = 2 ^ 8 from rfl, Nat.and_mod_two_pow, show (2 ^ 8 * x + y) % 2 ^ 8 = y by omega, show (2 ^ 8 * m + k) % 2 ^ 8 = k by omega]
  have h3 := Nat.div_add_mod ((256 * x + y) &&& (256 * m + k)) 256
  rw [h1, h2] at h3
  exact h3.symm
theorem tabA : ∀ b, b < 256 → ∀ e, e < 2 → (128 * e + b / 2) &&& 85 = (b / 2 &&& 1431655765) := by decide +kernel
theorem tabA2 : ∀ a, a < 256 → (a / 2 &&& 5592405) = (a / 2 &&& 1431655765) := by decide +kernel
theorem bcA_s {a b : Nat} (ha : a < 256) (hb : b < 256) : bcA (256 * a + b) = 256 * bcA a + bcA b := by
  have h1 : ((256 * a + b) / 2 &&& 1431655765) = 256 * (a / 2 &&& 1431655765) + (b / 2 &&& 1431655765) := by
    rw [show (256 * a + b) / 2 = 256 * (a / 2) + (128 * (a % 2) + b / 2) by omega, show (1431655765 : Nat) = 256 * 5592405 + 85 from rfl, and_split _ _ _ _ (by omega) (by decide), tabA b hb _ (Nat.mod_lt _ (by decide)), tabA2 a ha]
  have h2 : (a / 2 &&& 1431655765) ≤ a / 2 := Nat.and_le_left
  have h3 : (b / 2 &&& 1431655765) ≤ b / 2 := Nat.and_le_left
  unfold bcA
  rw [h1]
  omega
theorem tabB : ∀ b, b < 256 → ∀ e, e < 4 → (64 * e + b / 4) &&& 51 = (b / 4 &&& 858993459) := by decide +kernel
theorem tabB2 : ∀ a, a < 256 → (a / 4 &&& 3355443) = (a / 4 &&& 858993459) ∧ (a &&& 3355443) = (a &&& 858993459) ∧ (a &&& 51) = (a &&& 858993459) := by decide +kernel
theorem bcB_s {a b : Nat} (ha : a < 256) (hb : b < 256) : bcB (256 * a + b) = 256 * bcB a + bcB b := by
  have h1 : ((256 * a + b) / 4 &&& 858993459) = 256 * (a / 4 &&& 858993459) + (b / 4 &&& 858993459) := by
    rw [show (256 * a + b) / 4 = 256 * (a / 4) + (64 * (a % 4) + b / 4) by omega, show (858993459 : Nat) = 256 * 3355443 + 51 from rfl, and_split _ _ _ _ (by omega) (by decide), tabB b hb _ (Nat.mod_lt _ (by decide)), (tabB2 a ha).1]
  have h2 : ((256 * a + b) &&& 858993459) = 256 * (a &&& 858993459) + (b &&& 858993459) := by
    rw [show (858993459 : Nat) = 256 * 3355443 + 51 from rfl, and_split _ _ _ _ hb (by decide), (tabB2 a ha).2.1, (tabB2 b hb).2.2]
  unfold bcB
  rw [h1, h2]
  omega
theorem tabC : ∀ b, b < 256 → bcA b < 256 ∧ bcB (bcA b) ≤ 68 ∧ bcB (bcA b) % 16 ≤ 4 ∧ bcC (bcB (bcA b)) = onN b := by decide +kernel
theorem and15 (n : Nat) : n &&& 15 = n % 16 := Nat.and_two_pow_sub_one_eq_mod n 4
theorem tabC2 : ∀ b, b < 256 → b &&& 252645135 = b &&& 15 ∧ b &&& 986895 = b &&& 15 := by decide +kernel
theorem bcC_s {a b : Nat} (ha : a ≤ 68) (hb : b ≤ 68) (ha2 : a % 16 ≤ 4) : bcC (256 * a + b) = 256 * bcC a + bcC b := by
  unfold bcC
  rw [(tabC2 (a + a / 16) (by omega)).1, (tabC2 (b + b / 16) (by omega)).1]
  rw [show 256 * a + b + (256 * a + b) / 16 = 256 * (a + a / 16) + (b + b / 16 + 16 * (a % 16)) by omega, show (252645135 : Nat) = 256 * 986895 + 15 from rfl, and_split _ _ _ _ (by omega) (by decide), (tabC2 (a + a / 16) (by omega)).2, and15 (b + b / 16 + 16 * (a % 16)), and15 (b + b / 16)]
  omega
theorem on_split {a b : Nat} (ha : a < 256) (hb : b < 256) : onN (256 * a + b) = onN a + onN b := by
  have e0 : (256 * a + b) % 2 = b % 2 := by omega
  have e1 : (256 * a + b) / 2 % 2 = b / 2 % 2 := by omega
  have e2 : (256 * a + b) / 4 % 2 = b / 4 % 2 := by omega
  have e3 : (256 * a + b) / 8 % 2 = b / 8 % 2 := by omega
  have e4 : (256 * a + b) / 16 % 2 = b / 16 % 2 := by omega
  have e5 : (256 * a + b) / 32 % 2 = b / 32 % 2 := by omega
  have e6 : (256 * a + b) / 64 % 2 = b / 64 % 2 := by omega
  have e7 : (256 * a + b) / 128 % 2 = b / 128 % 2 := by omega
  have f0 : (256 * a + b) / 256 = a := by omega
  have f1 : (256 * a + b) / 512 = a / 2 := by omega
  have f2 : (256 * a + b) / 1024 = a / 4 := by omega
  have f3 : (256 * a + b) / 2048 = a / 8 := by omega
  have f4 : (256 * a + b) / 4096 = a / 16 := by omega
  have f5 : (256 * a + b) / 8192 = a / 32 := by omega
  have f6 : (256 * a + b) / 16384 = a / 64 := by omega
  have f7 : (256 * a + b) / 32768 = a / 128 := by omega
  have g : ∀ c, c < 256 → c / 256 = 0 ∧ c / 512 = 0 ∧ c / 1024 = 0 ∧ c / 2048 = 0 ∧ c / 4096 = 0 ∧ c / 8192 = 0 ∧ c / 16384 = 0 ∧ c / 32768 = 0 := by intro c hc; omega
  obtain ⟨a0, a1, a2, a3, a4, a5, a6, a7⟩ := g a ha
  obtain ⟨b0, b1, b2, b3, b4, b5, b6, b7⟩ := g b hb
  unfold onN
  rw [e0, e1, e2, e3, e4, e5, e6, e7, f0, f1, f2, f3, f4, f5, f6, f7, a0, a1, a2, a3, a4, a5, a6, a7, b0, b1, b2, b3, b4, b5, b6, b7]
  omega
theorem on_8 {b : Nat} (hb : b < 256) : onN b ≤ 8 := by
  have : ∀ b, b < 256 → onN b ≤ 8 := by decide +kernel
  exact this b hb
theorem and63 (n : Nat) : n &&& 63 = n % 64 := Nat.and_two_pow_sub_one_eq_mod n 6
theorem bc_on {n : Nat} (h : n < 65536) : bcN n = onN n := by
  obtain ⟨a, b, ha, hb, rfl⟩ : ∃ a b, a < 256 ∧ b < 256 ∧ n = 256 * a + b := ⟨n / 256, n % 256, by omega, Nat.mod_lt _ (by decide), (Nat.div_add_mod _ _).symm⟩
  obtain ⟨h1, h2, h3, h4⟩ := tabC a ha
  obtain ⟨g1, g2, g3, g4⟩ := tabC b hb
  have ha8 := on_8 ha
  have hb8 := on_8 hb
  rw [bcN, bcA_s ha hb, bcB_s h1 g1, bcC_s h2 g2 h3, h4, g4, on_split ha hb, bcD, bcE, and63]
  generalize onN a = p at ha8
  generalize onN b = q at hb8
  rw [show (256 * p + q) / 256 = p by omega, show (256 * p + q + p) / 65536 = 0 by omega]
  omega
theorem on_bc {v : Int32} (h : isN v 65536) : onI v = bcI v := by
  obtain ⟨n, hn, rfl⟩ := h
  rw [on_nat hn, bc_nat hn, bc_on hn]
theorem on_16 (n : Nat) : onN n ≤ 16 := by unfold onN; omega
theorem bc_16 {v : Int32} (h : isN v 65536) : isN (bcI v) 17 := by
  obtain ⟨n, hn, rfl⟩ := h
  exact ⟨onN n, by have := on_16 n; omega, by rw [bc_nat hn, bc_on hn]⟩
/-! the lowest of a set -/
theorem low_ex : ∀ n m : Nat, m < 2 ^ n → m ≠ 0 → ∃ j q, j < n ∧ m = 2 ^ (j + 1) * q + 2 ^ j := by
  intro n
  induction n with
  | zero => intro m h h0; omega
  | succ n ih =>
    intro m h h0
    rcases Nat.mod_two_eq_zero_or_one m with h2 | h2
    · obtain ⟨j, q, h3, h4⟩ := ih (m / 2) (by rw [Nat.pow_succ] at h; omega) (by omega)
      refine ⟨j + 1, q, by omega, ?_⟩
      have h5 : m = 2 * (m / 2) := by omega
      rw [h5, h4, Nat.pow_succ 2 (j + 1), Nat.pow_succ 2 j, Nat.mul_add, Nat.mul_comm (2 ^ j * 2) 2, Nat.mul_assoc 2, Nat.mul_comm (2 ^ j) 2]
    · exact ⟨0, m / 2, by omega, by rw [Nat.pow_zero, Nat.zero_add, Nat.pow_one]; omega⟩
theorem low_bit {j q m : Nat} (e : m = 2 ^ (j + 1) * q + 2 ^ j) (i : Nat) : m.testBit i = if i < j + 1 then decide (j = i) else q.testBit (i - (j + 1)) := by
  rw [e, Nat.testBit_two_pow_mul_add q (Nat.pow_lt_pow_right (by decide) (Nat.lt_succ_self j)), Nat.testBit_two_pow]
theorem low_and {j q m : Nat} (h : m < 65536) (e : m = 2 ^ (j + 1) * q + 2 ^ j) : nI m &&& (-(nI m)) = nI (2 ^ j) := by
  have hp := Nat.two_pow_pos j
  have e2 : m - 1 = 2 ^ (j + 1) * q + (2 ^ j - 1) := by omega
  have hneg : -(nI m) = nI (4294967296 - m) := i32_ext (by
    rw [Int32.toBitVec_neg, nI_bv, nI_bv]
    apply BitVec.eq_of_toNat_eq
    rw [BitVec.toNat_neg, BitVec.toNat_ofNat, BitVec.toNat_ofNat]
    show (4294967296 - m % 4294967296) % 4294967296 = (4294967296 - m) % 4294967296
    rw [Nat.mod_eq_of_lt (show m < 4294967296 by omega)])
  rw [hneg, nI_and]
  congr 1
  refine Nat.eq_of_testBit_eq (fun i => ?_)
  have e3 : 4294967296 - m = 2 ^ 32 - (m - 1 + 1) := by omega
  rw [Nat.testBit_and, e3, Nat.testBit_two_pow_sub_succ (by omega), low_bit e, e2, Nat.testBit_two_pow_mul_add q (by rw [Nat.pow_succ]; omega), Nat.testBit_two_pow]
  by_cases h1 : i < j + 1
  · rw [if_pos h1, if_pos h1, Nat.testBit_two_pow_sub_one]
    by_cases h2 : j = i
    · have h32 : i < 32 := by
        have h3 : 2 ^ j < 2 ^ 16 := by omega
        have := (Nat.pow_lt_pow_iff_right (a := 2) (by decide)).mp h3
        omega
      simp [h2, h32]
    · simp [h2]
  · rw [if_neg h1, if_neg h1, decide_eq_false (show ¬ j = i by omega)]
    cases q.testBit (i - (j + 1)) <;> simp
theorem nI_xm (a : Nat) : nI a ^^^ (-1) = nI (a ^^^ 4294967295) := i32_ext (by rw [Int32.toBitVec_xor, nI_bv, nI_bv, BitVec.ofNat_xor]; rfl)
theorem m32 : ∀ j, j < 32 → (4294967295 : Nat).testBit j = true := by decide +kernel
/-- what is forgotten when too much is known: the lowest but for the new one -/
theorem ln_first {kn kp : Int32} {t : Nat} (h1 : isN kn 65536) (ht : t < 16) (h3 : ¬ kp < 3) (hlt : kp < bcI (kn ||| (1 <<< (nI t &&& 31)))) :
    ∃ j, j < 16 ∧ (∀ i, i < j → hsI (kn ||| (1 <<< (nI t &&& 31))) (nI i) = 0 ∨ i = t) ∧ ¬ hsI (kn ||| (1 <<< (nI t &&& 31))) (nI j) = 0 ∧ j ≠ t ∧ lnI kn (nI t) kp = (kn ||| (1 <<< (nI t &&& 31))) &&& ((1 <<< (nI j &&& 31)) ^^^ (-1)) := by
  obtain ⟨m, hm, rfl⟩ := h1
  have hp : 2 ^ t < 2 ^ 16 := Nat.pow_lt_pow_right (by decide) ht
  have ea : nI m ||| (1 <<< (nI t &&& 31)) = nI (m ||| 2 ^ t) := by rw [b1_nI t (by omega), nI_or]
  have ha : m ||| 2 ^ t < 65536 := Nat.or_lt_two_pow (n := 16) hm hp
  have eo : nI (m ||| 2 ^ t) &&& ((1 <<< (nI t &&& 31)) ^^^ (-1)) = nI ((m ||| 2 ^ t) &&& (2 ^ t ^^^ 4294967295)) := by rw [b1_nI t (by omega), nI_xm, nI_and]
  obtain ⟨o, ho⟩ : ∃ o, o = (m ||| 2 ^ t) &&& (2 ^ t ^^^ 4294967295) := ⟨_, rfl⟩
  have ho2 : o < 65536 := by rw [ho]; exact Nat.lt_of_le_of_lt Nat.and_le_left ha
  have hbit : ∀ j, j < 32 → o.testBit j = ((m ||| 2 ^ t).testBit j && !decide (t = j)) := by
    intro j hj
    rw [ho, Nat.testBit_and, Nat.testBit_xor, Nat.testBit_two_pow, m32 j hj]
    cases decide (t = j) <;> simp
  have h0 : o ≠ 0 := by
    intro z
    have e2 : m ||| 2 ^ t = 2 ^ t := by
      refine Nat.eq_of_testBit_eq (fun j => ?_)
      by_cases hj : j < 32
      · have := hbit j hj
        rw [z, Nat.zero_testBit] at this
        rw [Nat.testBit_two_pow]
        by_cases hjt : t = j
        · subst hjt; simp
        · rw [decide_eq_false hjt] at this ⊢
          simpa using this.symm
      · rw [Nat.testBit_lt_two_pow (Nat.lt_of_lt_of_le ha (Nat.pow_le_pow_right (show 0 < 2 by decide) (show 16 ≤ j by omega))), Nat.testBit_lt_two_pow (Nat.lt_of_lt_of_le hp (Nat.pow_le_pow_right (by decide) (by omega)))]
    rw [ea, e2] at hlt
    have h1 : ∀ t, t < 16 → bcI (nI (2 ^ t)) = 1 := by decide +kernel
    rw [h1 t ht] at hlt
    exact h3 (Int32.lt_trans hlt (by decide))
  obtain ⟨jj, q, l1, el⟩ := low_ex 16 o ho2 h0
  have l2 : o.testBit jj = true := by rw [low_bit el, if_pos (Nat.lt_succ_self _)]; simp
  have l3 : ∀ i, i < jj → o.testBit i = false := fun i hi => by rw [low_bit el, if_pos (by omega)]; exact decide_eq_false (by omega)
  have hbit2 : ∀ j, j < 16 → (hsI (nI (m ||| 2 ^ t)) (nI j) = if (m ||| 2 ^ t).testBit j then 1 else 0) := fun j hj => hs_t (by omega) (by omega)
  rw [ea]
  refine ⟨jj, l1, fun i hi => ?_, ?_, ?_, ?_⟩
  · have h := l3 i hi
    rw [hbit i (by omega)] at h
    rw [hbit2 i (by omega)]
    by_cases hit : i = t
    · exact Or.inr hit
    · left
      rw [decide_eq_false (fun q => hit q.symm)] at h
      simpa using h
  · have h := l2
    rw [hbit _ (by omega)] at h
    rw [hbit2 _ (by omega)]
    by_cases hb : (m ||| 2 ^ t).testBit jj
    · rw [if_pos hb]; decide
    · simp [hb] at h
  · intro z
    have h := l2
    rw [hbit _ (by omega), z] at h
    simp at h
  · unfold lnI
    simp only []
    rw [ea, if_pos (by rw [← ea]; exact hlt), eo, ← ho, low_and ho2 el, b1_nI _ (by omega)]
