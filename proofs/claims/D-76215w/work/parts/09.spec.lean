/-! the plain law's words: worlds -/
def itr {α : Type} (g : Nat → α → α) (a : α) : Nat → α
  | 0 => a
  | n + 1 => g n (itr g a n)
theorem itr_0 {α : Type} (g : Nat → α → α) (a : α) : itr g a 0 = a := rfl
theorem itr_s {α : Type} (g : Nat → α → α) (a : α) (n : Nat) : itr g a (n + 1) = g n (itr g a n) := rfl
/-- how many gloves -/
def wN (f : wd) : Nat := (f 1 0).toNatClampNeg
def gOk (f : wd) (k : Nat) : Prop := isN (f 2 k) 7 ∧ isN (f 3 k) 6 ∧ isN (f 4 k) 10 ∧ isN (f 5 k) 65536 ∧ isN (f 6 k) 10000 ∧ isN (f 7 k) 65536 ∧ isN (f 8 k) 10000
def sOk (v : Int32) : Prop := ∃ a b c : Nat, a < 6 ∧ b < 16 ∧ c < 10 ∧ v = nI (1000 * a + 10 * b + c)
def wOk (f : wd) : Prop := isN (f 1 0) 9 ∧ (∀ k, k < 8 → gOk f k) ∧ (∀ i, i < 6 → sOk (f 0 i)) ∧ isN (f 1 2) 1000000 ∧ (∀ k, k < 10 → f 9 k = -1 ∨ isN (f 9 k) 8)
theorem wOk.n {f : wd} (h : wOk f) : f 1 0 = nI (wN f) ∧ wN f ≤ 8 := by
  obtain ⟨⟨n, hn, e⟩, -⟩ := h
  have : wN f = n := by unfold wN; rw [e, nI_clamp (by omega)]
  rw [this]
  exact ⟨e, by omega⟩
def dzI (z : Int32) : Int32 := z * 1103515245 + 12345
def drI (z : Int32) : Int32 := (z.toUInt32 >>> ((8 : Int32).toUInt32 &&& Int32.toUInt32 31)).toInt32
def b1 (k : Nat) : Int32 := 1 <<< (nI k &&& 31)
def clrS (n : Nat) (r : Nat) (g : wd) : wd := u2 g (2 + r) n 0
def addw (f : wd) (kind room : Int32) : wd := u2 (u2 (u2 (u2 (itr (clrS (wN f)) f 7) (2 + 0) (wN f) kind) (2 + 1) (wN f) room) (2 + 2) (wN f) 5) 1 0 (nI (wN f + 1))
def allI (f : wd) : Int32 := (1 <<< ((f 1 0) &&& 31)) - 1
def whS (f : wd) (room : Int32) (k : Nat) (acc : Int32) : Int32 := acc ||| (if hsI (f 1 1) (nI k) = 0 then (if f (2 + 1) k = room then b1 k else 0) else 0)
def whI (f : wd) (room : Int32) : Int32 := itr (whS f room) 0 (wN f)
def knS (f : wd) (r : Nat) (sm : Int32) (k : Nat) (acc : Int32) : Int32 := acc ||| (if hsI sm (nI k) = 0 then 0 else f (2 + r) k)
def knI (f : wd) (r : Nat) (sm : Int32) : Int32 := itr (knS f r sm) 0 (wN f)
def kbI (f : wd) (sm : Int32) : Int32 := knI f 3 sm ||| knI f 5 sm
def woS (f : wd) (t : Int32) (r : Nat) (k : Nat) (acc : Int32) : Int32 := acc ||| (if hsI (f (2 + r) k) t = 0 then 0 else b1 k)
def woI (f : wd) (t : Int32) (r : Nat) : Int32 := itr (woS f t r) 0 (wN f)
def siS (f : wd) (room : Int32) (i : Nat) (acc : Int32) : Int32 := acc ||| (if rmI (f 0 i) = room then 1 <<< (tpI (f 0 i) &&& 31) else 0)
def siI (f : wd) (room : Int32) : Int32 := itr (siS f room) 0 6
def diS (f : wd) (k : Nat) (acc : Int32) : Int32 := acc + f (2 + 6) k
def diI (f : wd) : Int32 := itr (diS f) 0 (wN f)
def wiS (f : wd) (k : Nat) (b : Int32) : Int32 := if b = -1 then nI k else if bcI (f (2 + 5) b.toNatClampNeg) < bcI (f (2 + 5) k) then nI k else b
def wiI (f : wd) : Int32 := itr (wiS f) (-1) (wN f)
theorem wiS_in (f : wd) (n : Nat) : itr (wiS f) (-1) n = -1 ∨ ∃ j, j < n ∧ itr (wiS f) (-1) n = nI j := by
  induction n with
  | zero => exact Or.inl rfl
  | succ n ih =>
    rw [itr_s]
    generalize itr (wiS f) (-1) n = b at ih ⊢
    unfold wiS
    by_cases h1 : b = -1
    · rw [if_pos h1]; exact Or.inr ⟨n, by omega, rfl⟩
    · obtain ⟨j, hj, e⟩ := ih.resolve_left h1
      rw [if_neg h1]
      by_cases h2 : bcI (f (2 + 5) b.toNatClampNeg) < bcI (f (2 + 5) n)
      · rw [if_pos h2]; exact Or.inr ⟨n, by omega, rfl⟩
      · rw [if_neg h2]; exact Or.inr ⟨j, by omega, e⟩
/-- today's saying -/
def nwI (f : wd) : Int32 := f 0 ((f 1 2).toNatClampNeg % 6)
def lnI (kn t kp : Int32) : Int32 :=
  let a := kn ||| (1 <<< (t &&& 31))
  let o := a &&& ((1 <<< (t &&& 31)) ^^^ (-1))
  if kp < bcI a then a &&& ((o &&& (-o)) ^^^ (-1)) else a
def lnw (f : wd) (k : Nat) (t kp : Int32) : wd := u2 f (2 + 3) k (lnI (f (2 + 3) k) t kp)
def mnI (a b : Int32) : Int32 := if b < a then b else a
def isdw (f : wd) (k : Nat) : wd :=
  let f1 := u2 f (2 + 5) k (f (2 + 5) k ||| f (2 + 3) k)
  let f2 := u2 f1 (2 + 3) k 0
  let f3 := u2 f2 (2 + 4) k 0
  let f4 := u2 f3 (2 + 6) k (mnI 9999 (f3 (2 + 6) k + 1))
  u2 f4 (2 + 1) k (f4 (2 + 1) k + 1 - (f4 (2 + 1) k + 1) / 6 * 6)
def liw (f : wd) (k : Nat) (stays : Int32) : wd :=
  let f1 := u2 f (2 + 4) k (mnI 9999 (f (2 + 4) k + 1))
  if 0 < stays then (if f1 (2 + 4) k < stays then f1 else isdw f1 k) else f1
def ltI (f : wd) (n : Int32) : Int32 := if 99999 < f 1 2 + n then 1 else 0
