/-! both readers agree: what is read -/
def badT (k v : Nat) : Prop := k = 4 ∨ (k = 1 ∧ ∀ j, j < 13 → v ≠ wK j) ∨ (k = 2 ∧ 99999 < v)
def SE (e : Nat) : ms → Prop
  | (_, _, b, k, v, f) => f = some e ∨ (f = none ∧ b = e ∧ badT k v)
def tokS (k v k' v' : Nat) : Prop := (k = 0 ∧ k' = 0) ∨ (k = 1 ∧ k' = 2 ∧ v' = v ∧ v ≤ 99999) ∨ (k = 2 ∧ k' = 1 ∧ v < 13 ∧ v' = wK v) ∨ (k = 3 ∧ k' = 3)
def SR : ps → ms → Prop
  | (_, a, b, k, v), (_, a', b', k', v', f) => f = none ∧ a' = a ∧ b' = b ∧ tokS k v k' v'
def SN : Nat ⊕ ps → ms → Prop
  | .inl e, m => SE e m
  | .inr s, m => SR s m
theorem fstB_t {P : Nat → Bool} : ∀ m a, fstB P m a < a + m → P (fstB P m a) = true := by
  intro m
  induction m with
  | zero => intro a h; exact absurd h (Nat.lt_irrefl _)
  | succ m ih =>
    intro a h
    cases hp : P a with
    | true => rw [fstB_stop hp (by omega)]; exact hp
    | false =>
      rw [fstB_go hp (by omega)] at h ⊢
      exact ih (a + 1) (by simp only [Nat.add_sub_cancel] at h ⊢; omega)
theorem fstB_f {P : Nat → Bool} : ∀ m a, ¬ fstB P m a < a + m → ∀ i, a ≤ i → i < a + m → P i = false := by
  intro m
  induction m with
  | zero => intro a h i h1 h2; omega
  | succ m ih =>
    intro a h i h1 h2
    cases hp : P a with
    | true => rw [fstB_stop hp (by omega)] at h; exact absurd (by omega) h
    | false =>
      rw [fstB_go hp (by omega)] at h
      by_cases c : i = a
      · rw [c]; exact hp
      · exact ih (a + 1) (by simp only [Nat.add_sub_cancel] at h; omega) i (by omega) (by omega)
section SM
variable {tp : Nat → Int32} {n : Nat}
theorem no59 {j : Nat} (h : ltB tp n j = true ∨ dgB tp n j = true) : ¬ tp j = 59 := by
  intro z
  rcases h with h | h
  · exact (of_decide_eq_true h).2 (by rw [z]; decide)
  · exact (of_decide_eq_true h).2 (by rw [z]; decide)
theorem sim_next (ht : tpOk tp) (hn : n ≤ 120) {w w' : wd} {a b k v b' k' v' : Nat} (ha : a ≤ n) : SN (nextP tp n (w, a, b, k, v)) (nextM tp n (w', a, b', k', v', none)) := by
  obtain ⟨k1, k2, k3, k4⟩ := sk_sp (P := spB tp n) spB_lt ha hn
  rw [nx_e (s := (w, a, b, k, v)) rfl, ne_e rfl]
  show SN (nxtB tp n (skB (spB tp n) a) (w, a, b, k, v)) (nxM tp n (skB (spB tp n) a) w' none)
  generalize skB (spB tp n) a = j at k1 k2 k3 k4
  unfold nxtB nxM
  by_cases c1 : n ≤ j
  · rw [if_pos c1, if_pos (by omega : n = j)]
    exact ⟨rfl, rfl, rfl, Or.inl ⟨rfl, rfl⟩⟩
  · rw [if_neg c1, if_neg (by omega : ¬ n = j)]
    cases c2 : ltB tp n j with
    | true =>
      rw [if_pos rfl, if_neg (no59 (Or.inl c2)), if_pos rfl]
      obtain ⟨e1, e2, e3, e4⟩ := sk_sp (P := ltB tp n) ltB_lt k2 hn
      have hl : ∀ i, i < skB (ltB tp n) j - j → ltB tp n (j + i) = true := fun i hi => e3 (j + i) (by omega) (by omega)
      have hkw : ∀ q, q < 13 → (¬ kyI tp j (skB (ltB tp n) j - j) q = 0 ↔ wdV tp j (skB (ltB tp n) j - j) = wK q) := fun q hq => key_wd ht hn hq hl
      show SN (if keyI tp j (skB (ltB tp n) j - j) < 13 then (.inr (w, skB (ltB tp n) j, j, 2, keyI tp j (skB (ltB tp n) j - j)) : Nat ⊕ ps) else .inl j) _
      by_cases c3 : keyI tp j (skB (ltB tp n) j - j) < 13
      · rw [if_pos c3]
        have h1 := fstB_t (P := fun k => decide (¬ kyI tp j (skB (ltB tp n) j - j) k = 0)) 13 0 c3
        exact ⟨rfl, rfl, rfl, Or.inr (Or.inr (Or.inl ⟨rfl, rfl, c3, (hkw _ c3).mp (of_decide_eq_true h1)⟩))⟩
      · rw [if_neg c3]
        refine Or.inr ⟨rfl, rfl, Or.inr (Or.inl ⟨rfl, fun q hq z => ?_⟩)⟩
        have h1 := fstB_f (P := fun k => decide (¬ kyI tp j (skB (ltB tp n) j - j) k = 0)) 13 0 c3 q (Nat.zero_le _) (by omega)
        exact (of_decide_eq_false h1) ((hkw q hq).mpr z)
    | false =>
      rw [if_neg (by decide)]
      cases c4 : dgB tp n j with
      | true =>
        rw [if_pos rfl, if_neg (no59 (Or.inr c4)), if_neg (by decide), if_pos rfl]
        show SN (if numV tp j (skB (dgB tp n) j - j) ≤ 99999 then (.inr (w, skB (dgB tp n) j, j, 1, numV tp j (skB (dgB tp n) j - j)) : Nat ⊕ ps) else .inl j) _
        by_cases c3 : numV tp j (skB (dgB tp n) j - j) ≤ 99999
        · rw [if_pos c3]; exact ⟨rfl, rfl, rfl, Or.inr (Or.inl ⟨rfl, rfl, rfl, c3⟩)⟩
        · rw [if_neg c3]; exact Or.inr ⟨rfl, rfl, Or.inr (Or.inr ⟨rfl, Nat.lt_of_not_le c3⟩)⟩
      | false =>
        rw [if_neg (by decide)]
        by_cases c5 : tp j = 59
        · rw [if_pos c5, if_pos c5]; exact ⟨rfl, rfl, rfl, Or.inr (Or.inr (Or.inr ⟨rfl, rfl⟩))⟩
        · rw [if_neg c5, if_neg c5, if_neg (by decide), if_neg (by decide)]; exact Or.inr ⟨rfl, rfl, Or.inl rfl⟩
theorem nxM_f (j : Nat) (w : wd) (f : Option Nat) : (nxM tp n j w f).2.2.2.2.2 = f ∧ (nxM tp n j w f).1 = w := by
  unfold nxM
  repeat' split
  all_goals exact ⟨rfl, rfl⟩
theorem nextM_f (m : ms) : (nextM tp n m).2.2.2.2.2 = m.2.2.2.2.2 ∧ (nextM tp n m).1 = m.1 := by
  obtain ⟨w, a, b, k, v, f⟩ := m
  exact nxM_f _ _ _
theorem SE_f {e : Nat} {m : ms} (h : m.2.2.2.2.2 = some e) : SE e m := by
  obtain ⟨w, a, b, k, v, f⟩ := m
  exact Or.inl h
theorem SE_wr {e : Nat} {m : ms} (h : SE e m) : SE e (wrM m) := by
  obtain ⟨w, a, b, k, v, f⟩ := m
  refine Or.inl ?_
  show (if f = none then some b else f) = some e
  rcases h with h | ⟨h1, h2, -⟩
  · rw [h, if_neg (by simp)]
  · rw [if_pos h1, h2]
theorem SE_nu {e h : Nat} {m : ms} (hh : h ≤ 100000) (hm : SE e m) : SE e (nuM tp n h m).2 := by
  obtain ⟨w, a, b, k, v, f⟩ := m
  by_cases c : k = 2 ∧ v < h
  · rw [nm_y c.1 c.2]
    rcases hm with hm | ⟨h1, h2, h3⟩
    · exact SE_f ((nextM_f _).1.trans hm)
    · exfalso
      rcases h3 with h3 | ⟨h3, -⟩ | ⟨-, h3⟩ <;> omega
  · rw [nm_n c]; exact SE_wr hm
theorem SE_nuG {e h : Nat} {m : ms} (hh : h ≤ 100000) (hm : SE e m) : SE e (nuG tp n h m).2 := by
  obtain ⟨w, a, b, k, v, f⟩ := m
  by_cases c : f = none
  · rw [nug_y c]; exact SE_nu hh hm
  · rw [nug_n c]; exact hm
theorem SE_w {e a b k v : Nat} {f : Option Nat} {w w' : wd} (h : SE e (w, a, b, k, v, f)) : SE e (w', a, b, k, v, f) := h
theorem SE_pe2 {e g r : Nat} {q : Nat × ms} (h : SE e q.2) : SE e (peM2 g r q) := by
  obtain ⟨z, w, a, b, k, v, f⟩ := q
  by_cases c : f = none
  · rw [show peM2 g r (z, w, a, b, k, v, f) = (u2 w (2 + r) g (nI z), a, b, k, v, f) from if_pos c]; exact h
  · rw [show peM2 g r (z, w, a, b, k, v, f) = (w, a, b, k, v, f) from if_neg c]; exact h
theorem SE_pe {e key g r h : Nat} {m : ms} (hk : key < 13) (hm : SE e m) : SE e (peM tp n (wK key) g r h m) := by
  obtain ⟨w, a, b, k, v, f⟩ := m
  rw [peM_n]
  · exact hm
  · intro ⟨c1, c2, c3⟩
    rcases hm with hm | ⟨h1, h2, h3⟩
    · rw [c1] at hm; cases hm
    · rcases h3 with h3 | ⟨-, h3⟩ | ⟨h3, -⟩
      · omega
      · exact h3 key hk c3
      · omega
theorem SE_sa2 {e z1 z2 z3 : Nat} {q : Nat × ms} (h : SE e q.2) : SE e (sa2 z1 z2 z3 q) := by
  obtain ⟨z, w, a, b, k, v, f⟩ := q
  by_cases c : f = none
  · rw [show sa2 z1 z2 z3 (z, w, a, b, k, v, f) = (u2 w 0 z1 (syI (nI z2) (nI z3) (nI z)), a, b, k, v, f) from if_pos c]; exact h
  · rw [show sa2 z1 z2 z3 (z, w, a, b, k, v, f) = (w, a, b, k, v, f) from if_neg c]; exact h
def SI : Nat ⊕ (Nat × ps) → Nat × ms → Prop
  | .inl e, q => SE e q.2
  | .inr p, q => q.1 = p.1 ∧ SR p.2 q.2
theorem sim_num (ht : tpOk tp) (hn : n ≤ 120) {h : Nat} (hh : h ≤ 100000) {s : ps} {m : ms} (ha : s.2.1 ≤ n) (hs : SR s m) : SI (numP tp n h s) (nuM tp n h m) := by
  obtain ⟨w, a, b, k, v⟩ := s
  obtain ⟨w', a', b', k', v', f⟩ := m
  obtain ⟨rfl, rfl, rfl, htk⟩ := hs
  by_cases c : k = 1 ∧ v < h
  · have hk : k' = 2 ∧ v' = v := by rcases htk with z | z | z | z <;> omega
    rw [nu_y c.1 c.2, nm_y hk.1 (by omega)]
    have sn := sim_next ht hn (w := w) (w' := w') (a := a') (b := b') (k := k) (v := v) (b' := b') (k' := k') (v' := v') ha
    cases hq : nextP tp n (w, a', b', k, v) with
    | inl e => rw [hq] at sn; exact sn
    | inr q => rw [hq] at sn; exact ⟨hk.2, sn⟩
  · have hk : ¬ (k' = 2 ∧ v' < h) := by rcases htk with z | z | z | z <;> omega
    rw [nu_n c, nm_n hk]
    exact Or.inl (if_pos rfl)
end SM
