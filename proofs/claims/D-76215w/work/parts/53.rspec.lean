/-! the reader: the plain law -/
def spB (tp : Nat → Int32) (n j : Nat) : Bool := decide (j < n ∧ tp j = 32)
def ltB (tp : Nat → Int32) (n j : Nat) : Bool := decide (j < n ∧ ¬ inI (tp j) 97 122 = 0)
def dgB (tp : Nat → Int32) (n j : Nat) : Bool := decide (j < n ∧ ¬ inI (tp j) 48 57 = 0)
/-- the first place from a on where it isn't so -/
def skB (P : Nat → Bool) (a : Nat) : Nat := fstB (fun j => !P j) 200 a
theorem fstB_uq {P : Nat → Bool} {i : Nat} : ∀ m a : Nat, a ≤ i → i < a + m → (∀ j, a ≤ j → j < i → P j = false) → P i = true → fstB P m a = i := by
  intro m
  induction m with
  | zero => intro a h1 h2; omega
  | succ m ih =>
    intro a h1 h2 h3 h4
    by_cases h : a = i
    · subst h; exact fstB_stop h4 (by omega)
    · rw [fstB_go (h3 a (Nat.le_refl _) (by omega)) (by omega)]
      exact ih (a + 1) (by omega) (by omega) (fun j g1 g2 => h3 j (by omega) g2) h4
theorem sk_uq {P : Nat → Bool} {a i : Nat} (h1 : a ≤ i) (h2 : i < a + 200) (h3 : ∀ j, a ≤ j → j < i → P j = true) (h4 : P i = false) : skB P a = i :=
  fstB_uq 200 a h1 h2 (fun j g1 g2 => by rw [h3 j g1 g2]; rfl) (by rw [h4]; rfl)
theorem sk_ex {P : Nat → Bool} {n : Nat} (hP : ∀ j, P j = true → j < n) : ∀ d a : Nat, a + d = n → ∃ i, a ≤ i ∧ i ≤ n ∧ (∀ j, a ≤ j → j < i → P j = true) ∧ P i = false := by
  intro d
  induction d with
  | zero =>
    intro a h
    refine ⟨a, Nat.le_refl _, by omega, fun j h1 h2 => by omega, ?_⟩
    cases h2 : P a with
    | false => rfl
    | true => have := hP a h2; omega
  | succ d ih =>
    intro a h
    cases h2 : P a with
    | false => exact ⟨a, Nat.le_refl _, by omega, fun j h1 h2 => by omega, h2⟩
    | true =>
      obtain ⟨i, h3, h4, h5, h6⟩ := ih (a + 1) (by omega)
      exact ⟨i, by omega, h4, fun j g1 g2 => by
        by_cases e : j = a
        · rw [e]; exact h2
        · exact h5 j (by omega) g2, h6⟩
theorem sk_sp {P : Nat → Bool} {n a : Nat} (hP : ∀ j, P j = true → j < n) (ha : a ≤ n) (hn : n ≤ 120) : a ≤ skB P a ∧ skB P a ≤ n ∧ (∀ j, a ≤ j → j < skB P a → P j = true) ∧ P (skB P a) = false := by
  obtain ⟨i, h1, h2, h3, h4⟩ := sk_ex hP (n - a) a (by omega)
  rw [sk_uq h1 (by omega) h3 h4]
  exact ⟨h1, h2, h3, h4⟩
theorem spB_lt {tp : Nat → Int32} {n : Nat} : ∀ j, spB tp n j = true → j < n := fun j h => (of_decide_eq_true h).1
theorem ltB_lt {tp : Nat → Int32} {n : Nat} : ∀ j, ltB tp n j = true → j < n := fun j h => (of_decide_eq_true h).1
theorem dgB_lt {tp : Nat → Int32} {n : Nat} : ∀ j, dgB tp n j = true → j < n := fun j h => (of_decide_eq_true h).1
def dgN (tp : Nat → Int32) (j : Nat) : Nat := (tp j).toNatClampNeg - 48
def nuS (tp : Nat → Int32) (a : Nat) (i v : Nat) : Nat := if 99999 < v then v else 10 * v + dgN tp (a + i)
def numV (tp : Nat → Int32) (a len : Nat) : Nat := itr (nuS tp a) 0 len
def keyC (j : Nat) : Int32 := nI (keyL.getD j 0)
def ky0 (len k : Nat) : Int32 := if len ≤ 7 then (if len = 7 then 1 else if keyC (7 * k + len) = 32 then 1 else 0) else 0
def kyS (tp : Nat → Int32) (a k : Nat) (i : Nat) (c : Int32) : Int32 := if c = 0 then 0 else if keyC (7 * k + i) = tp (a + i) then 1 else 0
def kyI (tp : Nat → Int32) (a len k : Nat) : Int32 := itr (kyS tp a k) (ky0 len k) len
def keyI (tp : Nat → Int32) (a len : Nat) : Nat := fstB (fun k => decide (¬ kyI tp a len k = 0)) 13 0
/-- told, at, begin, token (0 end, 1 number, 2 word, 3 semicolon), value -/
abbrev ps : Type := wd × Nat × Nat × Nat × Nat
def wordP (tp : Nat → Int32) (n : Nat) (s : ps) : Nat ⊕ ps := if keyI tp s.2.2.1 (skB (ltB tp n) s.2.1 - s.2.2.1) < 13 then .inr (s.1, skB (ltB tp n) s.2.1, s.2.2.1, 2, keyI tp s.2.2.1 (skB (ltB tp n) s.2.1 - s.2.2.1)) else .inl s.2.2.1
def digP (tp : Nat → Int32) (n : Nat) (s : ps) : Nat ⊕ ps := if numV tp s.2.1 (skB (dgB tp n) s.2.1 - s.2.1) ≤ 99999 then .inr (s.1, skB (dgB tp n) s.2.1, s.2.2.1, 1, numV tp s.2.1 (skB (dgB tp n) s.2.1 - s.2.1)) else .inl s.2.2.1
def nxtB (tp : Nat → Int32) (n b : Nat) (s : ps) : Nat ⊕ ps := if n ≤ b then .inr (s.1, b, b, 0, s.2.2.2.2) else if ltB tp n b then wordP tp n (s.1, b, b, s.2.2.2) else if dgB tp n b then digP tp n (s.1, b, b, s.2.2.2) else if tp b = 59 then .inr (s.1, b + 1, b, 3, s.2.2.2.2) else .inl b
def nextP (tp : Nat → Int32) (n : Nat) (s : ps) : Nat ⊕ ps := nxtB tp n (skB (spB tp n) s.2.1) s
def numP (tp : Nat → Int32) (n h : Nat) (s : ps) : Nat ⊕ (Nat × ps) := if s.2.2.2.1 = 1 ∧ s.2.2.2.2 < h then (match nextP tp n s with | .inl b => .inl b | .inr q => .inr (s.2.2.2.2, q)) else .inl s.2.2.1
def behP (tp : Nat → Int32) (n h : Nat) (s : ps) : Nat ⊕ (Nat × ps) := match nextP tp n s with | .inl b => .inl b | .inr q => numP tp n h q
def perP (tp : Nat → Int32) (n key r h : Nat) (s : ps) : Nat ⊕ ps := if s.2.2.2.1 = 2 ∧ s.2.2.2.2 = key then (match behP tp n h s with | .inl b => .inl b | .inr q => .inr (u2 q.2.1 (2 + r) (wN s.1 - 1) (nI q.1), q.2.2)) else .inr s
def gl1P (tp : Nat → Int32) (n : Nat) (s : ps) : Nat ⊕ (Nat × ps) := if s.2.2.2.1 = 2 ∧ s.2.2.2.2 = 9 then behP tp n 6 s else .inr (0, s)
def gloP (tp : Nat → Int32) (n kind : Nat) (s : ps) : Nat ⊕ ps := if wN s.1 < 8 then (match nextP tp n s with
    | .inl b => .inl b
    | .inr s1 => match gl1P tp n s1 with
      | .inl b => .inl b
      | .inr q => match perP tp n 10 2 10 (addw q.2.1 (nI kind) (nI q.1), q.2.2) with
        | .inl b => .inl b
        | .inr s3 => match perP tp n 11 3 65536 s3 with
          | .inl b => .inl b
          | .inr s4 => perP tp n 12 4 10000 s4) else .inl s.2.2.1
def saiP (tp : Nat → Int32) (n : Nat) (s : ps) : Nat ⊕ ps := match behP tp n 6 s with
  | .inl b => .inl b
  | .inr q1 => match numP tp n 6 q1.2 with
    | .inl b => .inl b
    | .inr q2 => match numP tp n 16 q2.2 with
      | .inl b => .inl b
      | .inr q3 => match numP tp n 10 q3.2 with
        | .inl b => .inl b
        | .inr q4 => .inr (u2 q4.2.1 0 q1.1 (syI (nI q2.1) (nI q3.1) (nI q4.1)), q4.2.2)
def hanP (tp : Nat → Int32) (n : Nat) (s : ps) : Nat ⊕ ps := match behP tp n (wN s.1) s with
  | .inl b => .inl b
  | .inr q1 => match numP tp n 65536 q1.2 with
    | .inl b => .inl b
    | .inr q2 => .inr (u2 q2.2.1 (2 + 5) q1.1 (nI q2.1), q2.2.2)
def iteP (tp : Nat → Int32) (n : Nat) (s : ps) : Nat ⊕ ps := if s.2.2.2.1 = 2 ∧ s.2.2.2.2 ≤ 8 then (if s.2.2.2.2 = 7 then saiP tp n s else if s.2.2.2.2 = 8 then hanP tp n s else gloP tp n s.2.2.2.2 s) else .inl s.2.2.1
def whoP (tp : Nat → Int32) (n : Nat) : Nat → Nat → ps → Nat ⊕ (Nat × ps)
  | 0, _, s => .inl s.2.2.1
  | f + 1, c, s => if s.2.2.2.1 = 3 then (match nextP tp n s with
      | .inl b => .inl b
      | .inr s1 => match iteP tp n s1 with
        | .inl b => .inl b
        | .inr s2 => whoP tp n f (c + 1) s2) else if s.2.2.2.1 = 0 then .inr (c, s) else .inl s.2.2.1
def txtP (tp : Nat → Int32) (n : Nat) (s : ps) : Nat ⊕ (Nat × ps) := match nextP tp n (s.1, 0, s.2.2) with
  | .inl b => .inl b
  | .inr s1 => match iteP tp n s1 with
    | .inl b => .inl b
    | .inr s2 => whoP tp n 200 1 s2
/-! what stays true -/
def psW (n : Nat) (s : ps) : Prop := wOk s.1 ∧ s.2.1 ≤ n
def psOk (n : Nat) (s : ps) : Prop := wOk s.1 ∧ s.2.1 ≤ n ∧ s.2.2.2.1 < 4 ∧ (s.2.2.2.1 = 1 ∨ s.2.2.2.1 = 2 → s.2.2.2.2 < 1000000)
theorem psOk.w {n : Nat} {s : ps} (h : psOk n s) : psW n s := ⟨h.1, h.2.1⟩
theorem ky_13 (tp : Nat → Int32) (a len : Nat) : keyI tp a len ≤ 13 := by
  have h : ∀ (P : Nat → Bool) m a, fstB P m a ≤ a + m := by
    intro P m
    induction m with
    | zero => intro a; exact Nat.le_refl _
    | succ m ih =>
      intro a
      cases hp : P a with
      | true => rw [fstB_stop hp (by omega)]; omega
      | false => rw [fstB_go hp (by omega)]; have := ih (a + 1); simp only [Nat.add_sub_cancel]; omega
  exact h _ 13 0
theorem next_ok {tp : Nat → Int32} {n : Nat} {s s' : ps} (hn : n ≤ 120) (hs : psW n s) (h : nextP tp n s = .inr s') : psOk n s' ∧ s'.1 = s.1 ∧ (s'.2.2.2.1 = 3 → s.2.1 < s'.2.1) ∧ s.2.1 ≤ s'.2.1 ∧ (s'.2.2.2.1 = 2 → s.2.1 < s'.2.1) := by
  obtain ⟨h1, h2⟩ := hs
  obtain ⟨k1, k2, k3, k4⟩ := sk_sp (P := spB tp n) spB_lt h2 hn
  unfold nextP at h
  generalize skB (spB tp n) s.2.1 = b at h k1 k2 k3 k4
  unfold nxtB at h
  by_cases c1 : n ≤ b
  · rw [if_pos c1] at h; cases h
    exact ⟨⟨h1, k2, (by show 0 < 4; decide), (fun q => by rcases q with q | q <;> cases q)⟩, rfl, (fun q => by cases q), k1, (fun q => by cases q)⟩
  · rw [if_neg c1] at h
    cases c2 : ltB tp n b with
    | true =>
      rw [if_pos c2] at h
      obtain ⟨e1, e2, e3, e4⟩ := sk_sp (P := ltB tp n) ltB_lt k2 hn
      have e5 : b < skB (ltB tp n) b := Nat.lt_of_le_of_ne e1 (fun q => by rw [← q, c2] at e4; cases e4)
      unfold wordP at h
      by_cases c3 : keyI tp b (skB (ltB tp n) b - b) < 13
      · rw [if_pos c3] at h; cases h
        exact ⟨⟨h1, e2, (by show 2 < 4; decide), (fun _ => by show keyI tp b (skB (ltB tp n) b - b) < 1000000; omega)⟩, rfl, (fun q => by cases q), (by show _ ≤ skB (ltB tp n) b; omega), (fun _ => by show _ < skB (ltB tp n) b; omega)⟩
      · rw [if_neg c3] at h; cases h
    | false =>
      rw [if_neg (by rw [c2]; decide)] at h
      cases c4 : dgB tp n b with
      | true =>
        rw [if_pos c4] at h
        obtain ⟨e1, e2, e3, e4⟩ := sk_sp (P := dgB tp n) dgB_lt k2 hn
        unfold digP at h
        by_cases c3 : numV tp b (skB (dgB tp n) b - b) ≤ 99999
        · rw [if_pos c3] at h; cases h
          exact ⟨⟨h1, e2, (by show 1 < 4; decide), (fun _ => by show numV tp b (skB (dgB tp n) b - b) < 1000000; omega)⟩, rfl, (fun q => by cases q), (by show _ ≤ skB (dgB tp n) b; omega), (fun q => by cases q)⟩
        · rw [if_neg c3] at h; cases h
      | false =>
        rw [if_neg (by rw [c4]; decide)] at h
        by_cases c5 : tp b = 59
        · rw [if_pos c5] at h; cases h
          exact ⟨⟨h1, (by show b + 1 ≤ n; omega), (by show 3 < 4; decide), (fun q => by rcases q with q | q <;> cases q)⟩, rfl, (fun _ => by show _ < b + 1; omega), (by show _ ≤ b + 1; omega), (fun q => by cases q)⟩
        · rw [if_neg c5] at h; cases h
theorem nx_e {tp : Nat → Int32} {n b : Nat} {s : ps} (hb : skB (spB tp n) s.2.1 = b) : nextP tp n s = nxtB tp n b s := by rw [nextP, hb]
theorem num_ok {tp : Nat → Int32} {n h : Nat} {s : ps} {q : Nat × ps} (hn : n ≤ 120) (hs : psOk n s) (e : numP tp n h s = .inr q) : psOk n q.2 ∧ q.2.1 = s.1 ∧ q.1 < h ∧ s.2.1 ≤ q.2.2.1 := by
  unfold numP at e
  split at e
  · rename_i c
    split at e
    · cases e
    · rename_i s' hx
      cases e
      obtain ⟨h1, h2, -, h4, -⟩ := next_ok hn hs.w hx
      exact ⟨h1, h2, c.2, h4⟩
  · cases e
theorem beh_ok {tp : Nat → Int32} {n h : Nat} {s : ps} {q : Nat × ps} (hn : n ≤ 120) (hs : psOk n s) (e : behP tp n h s = .inr q) : psOk n q.2 ∧ q.2.1 = s.1 ∧ q.1 < h ∧ s.2.1 ≤ q.2.2.1 := by
  unfold behP at e
  split at e
  · cases e
  · rename_i s' hx
    obtain ⟨h1, h2, -, h4, -⟩ := next_ok hn hs.w hx
    obtain ⟨g1, g2, g3, g4⟩ := num_ok hn h1 e
    exact ⟨g1, g2.trans h2, g3, by omega⟩
/-! the reader's cells -/
def rdX (x : cst) (s : ps) : cst := xr (xr (xr (xr (xs x 3 s.1) 1 1 (nI s.2.1)) 1 2 (nI s.2.2.1)) 1 3 (nI s.2.2.2.1)) 1 4 (nI s.2.2.2.2)
def vR (x : cst) : Nat ⊕ ps → Nat ⊕ (cst × Option Value)
  | .inl b => .inl b
  | .inr s => .inr (rdX x s, none)
def iR (x : cst) : Nat ⊕ (Nat × ps) → Nat ⊕ (cst × Option Value)
  | .inl b => .inl b
  | .inr q => .inr (rdX x q.2, some (.int (nI q.1)))
section RD
variable (x : cst) (w : wd) (a b k v : Nat)
theorem rd_0 : (rdX x (w, a, b, k, v)).2.1 1 0 = x.2.1 1 0 := by simp [rdX, xr, xs, u2_at]
theorem rd_1 : (rdX x (w, a, b, k, v)).2.1 1 1 = nI a := by simp [rdX, xr, xs, u2_at]
theorem rd_2 : (rdX x (w, a, b, k, v)).2.1 1 2 = nI b := by simp [rdX, xr, xs, u2_at]
theorem rd_3 : (rdX x (w, a, b, k, v)).2.1 1 3 = nI k := by simp [rdX, xr, xs, u2_at]
theorem rd_4 : (rdX x (w, a, b, k, v)).2.1 1 4 = nI v := by simp [rdX, xr, xs, u2_at]
theorem rd_r {r : Nat} (h : r ≠ 1) : (rdX x (w, a, b, k, v)).2.1 r = x.2.1 r := by funext c; simp [rdX, xr, xs, u2_at, h]
theorem rd_w : (rdX x (w, a, b, k, v)).1 3 = w := by simp [rdX, xr, xs]
theorem rd_wn {j : Nat} (h : j ≠ 3) : (rdX x (w, a, b, k, v)).1 j = x.1 j := by simp [rdX, xr, xs, h]
theorem rd_s1 (a' : Nat) : xr (rdX x (w, a, b, k, v)) 1 1 (nI a') = rdX x (w, a', b, k, v) := by
  refine Prod.ext rfl (Prod.ext ?_ rfl); funext r c; simp [rdX, xr, xs, u2_at]; repeat' split <;> simp_all
theorem rd_s2 (b' : Nat) : xr (rdX x (w, a, b, k, v)) 1 2 (nI b') = rdX x (w, a, b', k, v) := by
  refine Prod.ext rfl (Prod.ext ?_ rfl); funext r c; simp [rdX, xr, xs, u2_at]; repeat' split <;> simp_all
theorem rd_s3 (k' : Nat) : xr (rdX x (w, a, b, k, v)) 1 3 (nI k') = rdX x (w, a, b, k', v) := by
  refine Prod.ext rfl (Prod.ext ?_ rfl); funext r c; simp [rdX, xr, xs, u2_at]; repeat' split <;> simp_all
theorem rd_s4 (v' : Nat) : xr (rdX x (w, a, b, k, v)) 1 4 (nI v') = rdX x (w, a, b, k, v') := by
  refine Prod.ext rfl (Prod.ext ?_ rfl); funext r c; simp [rdX, xr, xs, u2_at]; repeat' split <;> simp_all
theorem rd_xs (f : wd) : xs (rdX x (w, a, b, k, v)) 3 f = rdX x (f, a, b, k, v) := by
  refine Prod.ext ?_ rfl; funext j; simp [rdX, xr, xs]; split <;> simp_all
end RD
theorem xr_self (x : cst) (r c : Nat) : xr x r c (x.2.1 r c) = x := by
  refine Prod.ext rfl (Prod.ext ?_ rfl)
  funext a b
  show u2 x.2.1 r c (x.2.1 r c) a b = x.2.1 a b
  rw [u2_at]; split
  · rename_i h; rw [h.1, h.2]
  · rfl
theorem rd_self {x : cst} {w : wd} {a b k v : Nat} (h0 : x.1 3 = w) (h1 : x.2.1 1 1 = nI a) (h2 : x.2.1 1 2 = nI b) (h3 : x.2.1 1 3 = nI k) (h4 : x.2.1 1 4 = nI v) : rdX x (w, a, b, k, v) = x := by
  unfold rdX
  subst h0
  simp only [← h1, ← h2, ← h3, ← h4]
  rw [xs_self, xr_self, xr_self, xr_self, xr_self]
theorem nI_sur (z : Int32) : ∃ j, z = nI j := ⟨z.toBitVec.toNat, Int32.toBitVec_inj.mp (by rw [nI_bv]; simp)⟩
theorem rdv {z z' : Int32} (h : z = z') : some (Value.int z) = some (.int z') := by rw [h]
theorem jk_rd (x : cst) (s s' : ps) : jk (rdX x s) (rdX x s') := by
  obtain ⟨w, a, b, k, v⟩ := s
  obtain ⟨w', a', b', k', v'⟩ := s'
  refine ⟨?_, ?_, ?_, ?_, ?_, rfl⟩
  · rw [rd_wn _ _ _ _ _ _ (by decide), rd_wn _ _ _ _ _ _ (by decide)]
  · rw [rd_wn _ _ _ _ _ _ (by decide), rd_wn _ _ _ _ _ _ (by decide)]
  · rw [rd_r _ _ _ _ _ _ (by decide), rd_r _ _ _ _ _ _ (by decide)]
  · rw [rd_r _ _ _ _ _ _ (by decide), rd_r _ _ _ _ _ _ (by decide)]
  · rw [rd_r _ _ _ _ _ _ (by decide), rd_r _ _ _ _ _ _ (by decide)]
/-- what the reader sees at a place -/
def byC (tp : Nat → Int32) (n k : Nat) : Int32 := if k < n then tp k &&& 255 else -1
def isBy (v : Int32) : Prop := v.toInt8.toInt32 = v
theorem isBy_ex {v : Int32} (h : isBy v) : ∃ j, j < 256 ∧ v = (nI j).toInt8.toInt32 := by
  refine ⟨v.toInt8.toBitVec.toNat, v.toInt8.toBitVec.isLt, ?_⟩
  have e : (nI v.toInt8.toBitVec.toNat).toInt8 = v.toInt8 := Int8.toBitVec_inj.mp (by
    rw [Int32.toBitVec_toInt8, nI_bv]
    simp
    generalize BitVec.signExtend 8 v.toBitVec = z
    rw [BitVec.signExtend_eq_setWidth_of_le _ (by decide)]
    simp)
  rw [e]; exact h.symm
theorem by_tab : ∀ j, j < 256 → (((nI j).toInt8.toInt32 &&& 255 = 32 ↔ (nI j).toInt8.toInt32 = 32) ∧ inI ((nI j).toInt8.toInt32 &&& 255) 97 122 = inI (nI j).toInt8.toInt32 97 122 ∧ inI ((nI j).toInt8.toInt32 &&& 255) 48 57 = inI (nI j).toInt8.toInt32 48 57 ∧ ((nI j).toInt8.toInt32 &&& 255 = 59 ↔ (nI j).toInt8.toInt32 = 59) ∧ ¬ ((nI j).toInt8.toInt32 &&& 255) < 0 ∧ (¬ inI (nI j).toInt8.toInt32 48 57 = 0 → ((nI j).toInt8.toInt32 &&& 255) - 48 = nI ((nI j).toInt8.toInt32.toNatClampNeg - 48) ∧ (nI j).toInt8.toInt32.toNatClampNeg - 48 < 10 ∧ (nI j).toInt8.toInt32 &&& 255 = (nI j).toInt8.toInt32) ∧ (¬ inI (nI j).toInt8.toInt32 97 122 = 0 → (nI j).toInt8.toInt32 &&& 255 = (nI j).toInt8.toInt32)) := by decide +kernel
theorem by_all {v : Int32} (h : isBy v) : ((v &&& 255 = 32 ↔ v = 32) ∧ inI (v &&& 255) 97 122 = inI v 97 122 ∧ inI (v &&& 255) 48 57 = inI v 48 57 ∧ (v &&& 255 = 59 ↔ v = 59) ∧ ¬ (v &&& 255) < 0 ∧ (¬ inI v 48 57 = 0 → (v &&& 255) - 48 = nI (v.toNatClampNeg - 48) ∧ v.toNatClampNeg - 48 < 10 ∧ v &&& 255 = v) ∧ (¬ inI v 97 122 = 0 → v &&& 255 = v)) := by
  obtain ⟨j, hj, rfl⟩ := isBy_ex h
  exact by_tab j hj
/-- the tape is of bytes -/
def tpOk (tp : Nat → Int32) : Prop := ∀ k, k < 120 → isBy (tp k)
section BY
variable {tp : Nat → Int32} {n k : Nat} (ht : tpOk tp) (hn : n ≤ 120)
theorem by_sp (ht : tpOk tp) (hn : n ≤ 120) : (byC tp n k = 32) ↔ spB tp n k = true := by
  unfold byC spB
  by_cases h : k < n
  · rw [if_pos h, (by_all (ht k (by omega))).1]; simp [h]
  · rw [if_neg h]; simp [h]
theorem by_lt (ht : tpOk tp) (hn : n ≤ 120) : (inI (byC tp n k) 97 122 = 0) ↔ ltB tp n k = false := by
  unfold byC ltB
  by_cases h : k < n
  · rw [if_pos h, (by_all (ht k (by omega))).2.1]; simp [h]
  · rw [if_neg h]; simp [h]; decide
theorem by_dg (ht : tpOk tp) (hn : n ≤ 120) : (inI (byC tp n k) 48 57 = 0) ↔ dgB tp n k = false := by
  unfold byC dgB
  by_cases h : k < n
  · rw [if_pos h, (by_all (ht k (by omega))).2.2.1]; simp [h]
  · rw [if_neg h]; simp [h]; decide
theorem by_0 (ht : tpOk tp) (hn : n ≤ 120) : (byC tp n k < 0) ↔ n ≤ k := by
  unfold byC
  by_cases h : k < n
  · rw [if_pos h]; exact ⟨fun q => absurd q (by_all (ht k (by omega))).2.2.2.2.1, fun q => by omega⟩
  · rw [if_neg h]; exact ⟨fun _ => by omega, fun _ => by decide⟩
theorem by_59 (ht : tpOk tp) (hn : n ≤ 120) (hk : k < n) : (byC tp n k = 59) ↔ tp k = 59 := by
  unfold byC
  rw [if_pos hk, (by_all (ht k (by omega))).2.2.2.1]
theorem by_dv (ht : tpOk tp) (hn : n ≤ 120) (h : dgB tp n k = true) : byC tp n k - 48 = nI (dgN tp k) ∧ dgN tp k < 10 := by
  obtain ⟨h1, h2⟩ := of_decide_eq_true h
  unfold byC
  rw [if_pos h1]
  obtain ⟨g1, g2, -⟩ := (by_all (ht k (by omega))).2.2.2.2.2.1 h2
  exact ⟨g1, g2⟩
theorem by_le (ht : tpOk tp) (hn : n ≤ 120) (h : ltB tp n k = true) : byC tp n k = tp k := by
  obtain ⟨h1, h2⟩ := of_decide_eq_true h
  unfold byC
  rw [if_pos h1]
  exact (by_all (ht k (by omega))).2.2.2.2.2.2 h2
end BY
theorem nu_b (tp : Nat → Int32) (a : Nat) : ∀ (len : Nat), (∀ j, a ≤ j → j < a + len → dgN tp j < 10) → numV tp a len < 1000010 := by
  intro len
  unfold numV
  induction len with
  | zero => intro _; show 0 < 1000010; decide
  | succ n ih =>
    intro hd
    have ih := ih (fun j h1 h2 => hd j h1 (by omega))
    rw [itr_s, nuS]
    split
    · exact ih
    · have := hd (a + n) (by omega) (by omega); omega
/-- so many, told by a most -/
def hi1 (hv : Int32) (h : Nat) : Prop := ∀ q, q < 1000000 → (inI (nI q) 0 hv = 0 ↔ h ≤ q)
theorem hi_l {hv : Int32} {m : Nat} (e : hv = nI m) (hm : m < 1000000) : hi1 hv (m + 1) := by
  intro q hq
  rw [e, show (0 : Int32) = nI 0 from rfl, in_nat (by omega) (by decide) (by omega), if_neg (by omega)]
  by_cases h : m < q
  · rw [if_pos h]; exact ⟨fun _ => by omega, fun _ => rfl⟩
  · rw [if_neg h]; exact ⟨fun z => absurd z (by decide), fun z => by omega⟩
theorem hi_p {g : Nat} (hg : g < 1000000) : hi1 (nI g - 1) g := by
  cases g with
  | zero =>
    intro q hq
    refine ⟨fun _ => Nat.zero_le _, fun _ => ?_⟩
    unfold inI
    rw [if_neg (nI_pos (by omega)), if_pos (by rw [Int32.lt_iff_toInt_lt, nI_toInt (by omega)]; show (-1 : Int) < _; omega)]
  | succ g => rw [nI_pred]; exact hi_l rfl (by omega)
