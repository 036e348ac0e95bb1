/-! more of the plain law's words: what is held, odds, the tape, sheets -/
def a_as (f : wd) (s kd : Int32) : act := if inI s 0 9 = 0 then .inl 0 else if inI kd 0 6 = 0 then .inl 0 else if f 9 s.toNatClampNeg = -1 then .inl 5 else if unI (kN f (f 9 s.toNatClampNeg).toNatClampNeg) kd = 0 then .inl 2 else .inr (f 9 s.toNatClampNeg, f)
abbrev actL : Type := Nat ⊕ Int64
def aL : actL → Int64
  | .inl k => (-1000001 - nI k).toInt64
  | .inr v => v
def odN (p : Nat) (w : Int32) : Nat := (if w = 0 then p else 16) / Nat.gcd p 16
def powL (one : Nat) (n : Nat) : Int64 := itr (fun _ v => v * (nI one).toInt64) 1 n
def a_odds (f : wd) (g n w : Int32) : actL := if isGlI f g = 0 then .inl 0 else if inI n 0 15 = 0 then .inl 0 else if inI w 0 1 = 0 then .inl 0 else .inr (powL (odN (bcI (f (2 + 5) g.toNatClampNeg)).toNatClampNeg w) n.toNatClampNeg)
/-! the tape -/
def byt (b : Int32) (k : Nat) : Int32 := (b >>> ((8 * nI k) &&& 31)).toInt8.toInt32
def fdS (b : Int32) (t n : Nat) (i : Nat) (tp : Nat → Int32) : Nat → Int32 := upd tp (t + i) (byt b (n - 1 - i))
def fdT (b : Int32) (t n : Nat) (i : Nat) (tp : Nat → Int32) : Nat → Int32 := itr (fdS b t n) tp i
/-- a finding, or how many bytes there are now -/
def a_feed (t : Nat) (n : Int32) : Nat ⊕ Nat := if inI n 1 4 = 0 then .inl 0 else if 120 < t + n.toNatClampNeg then .inl 1 else .inr (t + n.toNatClampNeg)
def aF : Nat ⊕ Nat → Int32
  | .inl k => -1000001 - nI k
  | .inr c => nI c
/-! sheets: of bytes (0), shorts (1), ints (2); how many; which -/
abbrev shv : Type := Option (Nat × Nat × (Nat → Int32))
def shb : Nat → Nat
  | 0 => 8
  | 1 => 16
  | _ => 32
def shn (t : Nat) (v : Int32) : Int32 := match t with
  | 0 => v.toInt8.toInt32
  | 1 => v.toInt16.toInt32
  | _ => v
def a_sheet (s b n : Int32) : Nat ⊕ (Int32 × shv) := if inI s 0 3 = 0 then .inl 0 else if b = 0 ∨ b = 8 ∨ b = 16 ∨ b = 32 then (if n < 0 then .inl 6 else if 40 < n then .inl 0 else if b = 0 then .inr (0, none) else .inr (n, some (if b = 8 then 0 else if b = 16 then 1 else 2, n.toNatClampNeg, fun _ => 0))) else .inl 0
/-- why there is no sheet, or the sheet -/
def shq (q : Nat → shv) (s : Int32) : Nat ⊕ (Nat × Nat × (Nat → Int32)) := if inI s 0 3 = 0 then .inl 0 else match q s.toNatClampNeg with
  | none => .inl 5
  | some z => .inr z
def a_write (q : Nat → shv) (s i v : Int32) : Nat ⊕ (Nat × Nat × Int32) := match shq q s with
  | .inl k => .inl k
  | .inr z => if inI i 0 (nI z.2.1 - 1) = 0 then .inl 0 else .inr (s.toNatClampNeg, i.toNatClampNeg, shn z.1 v)
/-- the first that is no good -/
def ldP (z : Nat × Nat × (Nat → Int32)) (i : Nat) : Bool := decide (¬ (i < z.2.1 ∧ i < 6 ∧ ¬ isSayI (z.2.2 i) = 0))
def ldN (z : Nat × Nat × (Nat → Int32)) : Nat := fstB (ldP z) 7 0
def ldW (z : Nat × Nat × (Nat → Int32)) (f : wd) (n : Nat) : wd := itr (fun i w => u2 w 0 i (z.2.2 i)) f n
def a_load (q : Nat → shv) (f : wd) (s : Int32) : act := match shq q s with
  | .inl k => .inl k
  | .inr z => .inr (nI (ldN z), ldW z f (ldN z))
def juP (f : wd) (z : Nat × Nat × (Nat → Int32)) (i : Nat) : Bool := decide (¬ (i < z.2.1 ∧ ¬ isGlI f (nI i) = 0 ∧ z.2.2 i = f (2 + 5) i))
def juN (f : wd) (z : Nat × Nat × (Nat → Int32)) : Nat := fstB (juP f z) 41 0
def a_judge (q : Nat → shv) (f : wd) (s : Int32) : act := match shq q s with
  | .inl k => .inl k
  | .inr z => .inr (if juN f z = z.2.1 then 0 else nI (1 + juN f z), f)
/-- what it knows is as a sheet tells, day by day -/
def wsoS (f : wd) (k : Nat) (z : Nat × Nat × (Nat → Int32)) (i : Nat) (a : Int32) : Int32 := if a = 0 then 0 else if z.2.2 i = -1 then 1 else if z.2.2 i = psn f i (2 + 3) k then 1 else 0
def wsoI (f : wd) (k : Nat) (z : Nat × Nat × (Nat → Int32)) : Int32 := itr (wsoS f k z) 1 z.2.1
theorem wsoS_01 (f : wd) (k : Nat) (z : Nat × Nat × (Nat → Int32)) (i : Nat) : itr (wsoS f k z) 1 i = 0 ∨ itr (wsoS f k z) 1 i = 1 := by
  cases i with
  | zero => exact Or.inr rfl
  | succ i =>
    rw [itr_s, wsoS]
    split
    · exact Or.inl rfl
    · split
      · exact Or.inr rfl
      · split
        · exact Or.inr rfl
        · exact Or.inl rfl
theorem wsoS_0 {f : wd} {k : Nat} {z : Nat × Nat × (Nat → Int32)} {i : Nat} (h : itr (wsoS f k z) 1 i = 0) (j : Nat) : itr (wsoS f k z) 1 (i + j) = 0 := by
  induction j with
  | zero => exact h
  | succ j ih => rw [← Nat.add_assoc, itr_s, ih, wsoS, if_pos rfl]
theorem ws_end {f : wd} {k : Nat} {z : Nat × Nat × (Nat → Int32)} {i : Nat} (hi : i ≤ z.2.1) (h : itr (wsoS f k z) 1 i = 0 ∨ z.2.1 ≤ i) : itr (wsoS f k z) 1 i = wsoI f k z := by
  rcases h with h | h
  · obtain ⟨j, hj⟩ : ∃ j, z.2.1 = i + j := ⟨z.2.1 - i, by omega⟩
    rw [wsoI, hj, wsoS_0 h j, h]
  · rw [wsoI, show z.2.1 = i by omega]
def ftS (f : wd) (k r : Nat) (z : Nat × Nat × (Nat → Int32)) (v : Nat) (a : Int32) : Int32 := a ||| (if wsoI (u2 f (2 + r) k (nI v)) k z = 0 then 0 else b1 v)
def ftI (f : wd) (k r many : Nat) (z : Nat × Nat × (Nat → Int32)) : Int32 := itr (ftS f k r z) 0 many
def a_fits (r many : Nat) (q : Nat → shv) (f : wd) (s g : Int32) : act := match shq q s with
  | .inl k => .inl k
  | .inr z => if isGlI f g = 0 then .inl 0 else .inr (ftI f g.toNatClampNeg r many z, f)
def a_copy (q : Nat → shv) (s fr t to n : Int32) : Nat ⊕ (Nat × Nat × Nat × Nat × Nat) := if inI s 0 3 = 0 then .inl 0 else if inI t 0 3 = 0 then .inl 0 else match q s.toNatClampNeg, q t.toNatClampNeg with
  | some z1, some z2 => if z1.1 = z2.1 then (if n < 0 then .inl 0 else if fr < 0 then .inl 0 else if to < 0 then .inl 0 else if nI z1.2.1 - n < fr then .inl 0 else if nI z2.2.1 - n < to then .inl 0 else .inr (s.toNatClampNeg, fr.toNatClampNeg, t.toNatClampNeg, to.toNatClampNeg, n.toNatClampNeg)) else .inl 2
  | _, _ => .inl 5
def shC (x : cst) (s : Nat) : shv := (x.2.2.2 s).map (·.2)
/-- the component's sheets are sheets -/
def shOk (x : cst) : Prop := ∀ s, s < 4 → ∀ q, x.2.2.2 s = some q → q.2.1 < 3 ∧ q.2.2.1 ≤ 40
