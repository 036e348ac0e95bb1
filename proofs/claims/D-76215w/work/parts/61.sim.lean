/-! both readers agree: words -/
def wK (k : Nat) : Nat := [3967817, 4393273559, 191727149, 237058, 1489745, 10497768, 65782373, 374953, 158575, 257, 307058, 6132988, 242911].getD k 0
def lK (k : Nat) : Nat := [5, 7, 6, 4, 5, 5, 6, 4, 4, 2, 4, 5, 4].getD k 0
def kL (k i : Nat) : Nat := keyL.getD (7 * k + i) 0
def bN (x : Nat → Nat) : Nat → Nat
  | 0 => 0
  | i + 1 => 27 * bN x i + x i
theorem bN_pos {x : Nat → Nat} {m : Nat} (h : 1 ≤ x m) : 0 < bN x (m + 1) := by show 0 < 27 * bN x m + x m; omega
theorem bN_inj {x z : Nat → Nat} : ∀ m l : Nat, (∀ i, i < m → 1 ≤ x i ∧ x i < 27) → (∀ i, i < l → 1 ≤ z i ∧ z i < 27) → bN x m = bN z l → m = l ∧ ∀ i, i < m → x i = z i := by
  intro m
  induction m with
  | zero =>
    intro l _ hz e
    cases l with
    | zero => exact ⟨rfl, fun i h => by omega⟩
    | succ l => have := bN_pos (hz l (by omega)).1; have e : 0 = bN z (l + 1) := e; omega
  | succ m ih =>
    intro l hx hz e
    cases l with
    | zero => have := bN_pos (hx m (by omega)).1; have e : bN x (m + 1) = 0 := e; omega
    | succ l =>
      have e : 27 * bN x m + x m = 27 * bN z l + z l := e
      have h1 := hx m (by omega)
      have h2 := hz l (by omega)
      obtain ⟨g1, g2⟩ := ih l (fun i h => hx i (by omega)) (fun i h => hz i (by omega)) (by omega)
      subst g1
      refine ⟨rfl, fun i h => ?_⟩
      by_cases c : i = m
      · subst c; omega
      · exact g2 i (by omega)
theorem bN_eq {x z : Nat → Nat} : ∀ m : Nat, (∀ i, i < m → x i = z i) → bN x m = bN z m := by
  intro m
  induction m with
  | zero => intro _; rfl
  | succ m ih => intro h; show 27 * bN x m + x m = 27 * bN z m + z m; rw [ih (fun i g => h i (by omega)), h m (by omega)]
theorem wK_b : ∀ k, k < 13 → bN (fun i => kL k i - 96) (lK k) = wK k ∧ lK k ≤ 7 ∧ (lK k = 7 ∨ kL k (lK k) = 32) := by decide +kernel
theorem wK_d : ∀ k, k < 13 → ∀ i, i < lK k → 97 ≤ kL k i ∧ kL k i < 123 := by decide +kernel
theorem wK_l : ∀ k, k < 13 → ∀ m, m < 8 → (m = 7 ∨ kL k m = 32) → (∀ i, i < m → 97 ≤ kL k i) → m = lK k := by decide +kernel
theorem wK_m : ∀ k, k < 13 → wK k < 10460353203 := by decide +kernel
theorem wK_inj : ∀ k, k < 13 → ∀ j, j < 13 → wK k = wK j → k = j := by decide +kernel
theorem nI_inj {a b : Nat} (ha : a < 2 ^ 31) (hb : b < 2 ^ 31) (h : nI a = nI b) : a = b := (neq (a := a) (b := b) rfl rfl (by omega) (by omega)).mp h
section KW
variable {tp : Nat → Int32} {n a : Nat}
/-- the key's letters and the word's -/
def K1 (tp : Nat → Int32) (a len k : Nat) : Prop := len ≤ 7 ∧ (len = 7 ∨ kL k len = 32) ∧ ∀ i, i < len → kL k i = ltN tp (a + i) + 96
theorem key_c1 {k i : Nat} (ht : tpOk tp) (hn : n ≤ 120) (hk : k < 13) (hi : i < 7) (hl : ltB tp n (a + i) = true) : keyC (7 * k + i) = tp (a + i) ↔ kL k i = ltN tp (a + i) + 96 := by
  obtain ⟨h1, h2, -, h4⟩ := ltN_b ht hn hl
  rw [h4]
  show nI (kL k i) = _ ↔ _
  have hb : kL k i < 128 := key_b _ (by omega)
  exact ⟨fun z => nI_inj (by omega) (by omega) z, fun z => by rw [z]⟩
theorem ky_k1 {k : Nat} (ht : tpOk tp) (hn : n ≤ 120) (hk : k < 13) (len : Nat) (hl7 : len ≤ 7) : ∀ m, m ≤ len → (∀ i, i < m → ltB tp n (a + i) = true) → (¬ itr (kyS tp a k) (ky0 len k) m = 0 ↔ (¬ ky0 len k = 0 ∧ ∀ i, i < m → kL k i = ltN tp (a + i) + 96)) := by
  intro m
  induction m with
  | zero => intro _ _; exact ⟨fun h => ⟨h, fun i z => by omega⟩, fun h => h.1⟩
  | succ m ih =>
    intro hm hl
    have ih := ih (by omega) (fun i z => hl i (by omega))
    rw [itr_s]
    have hc := key_c1 ht hn hk (by omega : m < 7) (hl m (by omega))
    constructor
    · intro h
      have h0 : ¬ itr (kyS tp a k) (ky0 len k) m = 0 := fun z => h (by rw [z]; rfl)
      obtain ⟨g1, g2⟩ := ih.mp h0
      refine ⟨g1, fun i hi => ?_⟩
      by_cases c : i = m
      · subst c
        exact hc.mp (Classical.byContradiction fun z => h (ky_s0 h0 z))
      · exact g2 i (by omega)
    · intro ⟨g1, g2⟩ z
      have h0 := ih.mpr ⟨g1, fun i hi => g2 i (by omega)⟩
      rw [ky_s1 h0 (hc.mpr (g2 m (by omega)))] at z
      exact absurd z (by decide)
theorem ky0_k {k len : Nat} (hk : k < 13) (h : len ≤ 7) : ¬ ky0 len k = 0 ↔ (len = 7 ∨ kL k len = 32) := by
  unfold ky0
  rw [if_pos h]
  by_cases c : len = 7
  · rw [if_pos c]; exact ⟨fun _ => Or.inl c, fun _ => by decide⟩
  · rw [if_neg c]
    have hb : kL k len < 128 := key_b _ (by omega)
    have e : keyC (7 * k + len) = 32 ↔ kL k len = 32 := ⟨fun z => nI_inj (b := 32) (by show kL k len < 2 ^ 31; omega) (by omega) z, fun z => by show nI (kL k len) = 32; rw [z]; rfl⟩
    by_cases c2 : keyC (7 * k + len) = 32
    · rw [if_pos c2]; exact ⟨fun _ => Or.inr (e.mp c2), fun _ => by decide⟩
    · rw [if_neg c2]; exact ⟨fun z => absurd rfl z, fun z => by rcases z with z | z; exact absurd z c; exact absurd (e.mpr z) c2⟩
theorem ky_K1 {k len : Nat} (ht : tpOk tp) (hn : n ≤ 120) (hk : k < 13) (hl : ∀ i, i < len → ltB tp n (a + i) = true) : ¬ kyI tp a len k = 0 ↔ K1 tp a len k := by
  by_cases h7 : len ≤ 7
  · unfold kyI
    rw [ky_k1 ht hn hk len h7 len (Nat.le_refl _) hl, ky0_k hk h7]
    exact ⟨fun h => ⟨h7, h.1, h.2⟩, fun h => ⟨h.2.1, h.2.2⟩⟩
  · refine ⟨fun h => absurd (ky_7 h) h7, fun h => absurd h.1 h7⟩
theorem wd_bN : ∀ len, len ≤ 8 → (∀ i, i < len → ltN tp (a + i) < 27) → wdV tp a len = bN (fun i => ltN tp (a + i)) len ∧ wdV tp a len < 27 ^ len := by
  intro len
  induction len with
  | zero => intro _ _; exact ⟨rfl, by show 0 < 1; decide⟩
  | succ m ih =>
    intro hm hl
    obtain ⟨g1, g2⟩ := ih (by omega) (fun i h => hl i (by omega))
    have hp : 27 ^ m ≤ 27 ^ 7 := Nat.pow_le_pow_right (by decide) (by omega)
    have e : wdV tp a (m + 1) = 27 * wdV tp a m + ltN tp (a + m) := by
      have hc : ¬ 100000000000000000 < wdV tp a m := by
        have : (27 : Nat) ^ 7 = 10460353203 := by decide
        omega
      unfold wdV at hc ⊢
      rw [itr_s, wvS, if_neg hc]
    rw [e, g1]
    refine ⟨rfl, ?_⟩
    rw [← g1, Nat.pow_succ]
    have := hl m (by omega)
    omega
theorem wd_mono (tp : Nat → Int32) (a m : Nat) : wdV tp a m ≤ wdV tp a (m + 1) := by
  unfold wdV
  rw [itr_s, wvS]
  split <;> omega
theorem wd_big (tp : Nat → Int32) (a : Nat) : ∀ d m, wdV tp a m ≤ wdV tp a (m + d) := by
  intro d
  induction d with
  | zero => intro m; exact Nat.le_refl _
  | succ d ih => intro m; exact Nat.le_trans (ih m) (wd_mono tp a (m + d))
theorem bN_ge {x : Nat → Nat} : ∀ m, (∀ i, i < m + 1 → 1 ≤ x i) → 27 ^ m ≤ bN x (m + 1) := by
  intro m
  induction m with
  | zero => intro h; have := h 0 (by omega); show 1 ≤ 27 * 0 + x 0; omega
  | succ m ih =>
    intro h
    have := ih (fun i g => h i (by omega))
    show 27 ^ (m + 1) ≤ 27 * bN x (m + 1) + x (m + 1)
    rw [Nat.pow_succ]; omega
/-- a key is known by the component as by the model -/
theorem key_wd {k len : Nat} (ht : tpOk tp) (hn : n ≤ 120) (hk : k < 13) (hl : ∀ i, i < len → ltB tp n (a + i) = true) : ¬ kyI tp a len k = 0 ↔ wdV tp a len = wK k := by
  rw [ky_K1 ht hn hk hl]
  have hd : ∀ i, i < len → 1 ≤ ltN tp (a + i) ∧ ltN tp (a + i) < 27 := fun i hi => ⟨(ltN_b ht hn (hl i hi)).2.1, (ltN_b ht hn (hl i hi)).1⟩
  obtain ⟨b1, b2, b3⟩ := wK_b k hk
  by_cases h7 : len ≤ 7
  · obtain ⟨e, -⟩ := wd_bN (tp := tp) (a := a) len (by omega) (fun i hi => (hd i hi).2)
    rw [e]
    constructor
    · intro ⟨_, h2, h3⟩
      have hm := wK_l k hk len (by omega) h2 (fun i hi => by have := h3 i hi; have := hd i hi; omega)
      rw [← b1, ← hm]
      exact bN_eq len (fun i hi => by have := h3 i hi; show _ = kL k i - 96; omega)
    · intro h
      rw [← b1] at h
      obtain ⟨g1, g2⟩ := bN_inj len (lK k) hd (fun i hi => by have := wK_d k hk i hi; show 1 ≤ kL k i - 96 ∧ kL k i - 96 < 27; omega) h
      refine ⟨h7, by rw [g1]; exact b3, fun i hi => ?_⟩
      have h5 := g2 i hi
      have h6 := wK_d k hk i (by omega)
      have h5 : ltN tp (a + i) = kL k i - 96 := h5
      omega
  · refine ⟨fun h => absurd h.1 h7, fun h => ?_⟩
    exfalso
    obtain ⟨e, -⟩ := wd_bN (tp := tp) (a := a) 8 (by omega) (fun i hi => (hd i (by omega)).2)
    have h8 := bN_ge (x := fun i => ltN tp (a + i)) 7 (fun i hi => (hd i (by omega)).1)
    have h8 : 27 ^ 7 ≤ bN (fun i => ltN tp (a + i)) 8 := h8
    have h9 := wd_big tp a (len - 8) 8
    rw [show 8 + (len - 8) = len by omega] at h9
    have := wK_m k hk
    have : (27 : Nat) ^ 7 = 10460353203 := by decide
    omega
end KW
