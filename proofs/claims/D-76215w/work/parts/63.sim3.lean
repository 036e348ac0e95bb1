/-! both readers agree: items -/
def SNW : Nat ⊕ ps → ms → Prop
  | .inl e, m => SE e m
  | .inr s, m => SR s m ∧ m.1 = s.1
section SP
variable {tp : Nat → Int32} {n : Nat}
theorem nuM_w {h : Nat} (m : ms) : (nuM tp n h m).2.1 = m.1 := by
  obtain ⟨w, a, b, k, v, f⟩ := m
  by_cases c : k = 2 ∧ v < h
  · rw [nm_y c.1 c.2]; exact (nextM_f _).2
  · rw [nm_n c]; rfl
theorem SR_f {s : ps} {m : ms} (h : SR s m) : m.2.2.2.2.2 = none ∧ m.2.1 = s.2.1 ∧ m.2.2.1 = s.2.2.1 := by
  obtain ⟨w, a, b, k, v⟩ := s
  obtain ⟨w', a', b', k', v', f⟩ := m
  exact ⟨h.1, h.2.1, h.2.2.1⟩
theorem sim_nx (ht : tpOk tp) (hn : n ≤ 120) {s : ps} {m : ms} (ha : s.2.1 ≤ n) (h1 : m.2.2.2.2.2 = none) (h2 : m.2.1 = s.2.1) : SN (nextP tp n s) (nextM tp n m) := by
  obtain ⟨w, a, b, k, v⟩ := s
  obtain ⟨w', a', b', k', v', f⟩ := m
  have h1 : f = none := h1
  have h2 : a' = a := h2
  subst h1 h2
  exact sim_next ht hn ha
theorem sim_beh (ht : tpOk tp) (hn : n ≤ 120) {h : Nat} (hh : h ≤ 100000) {s : ps} {m : ms} (hs : psW n s) (h1 : m.2.2.2.2.2 = none) (h2 : m.2.1 = s.2.1) : SI (behP tp n h s) (nuM tp n h (nextM tp n m)) := by
  have sn := sim_nx ht hn hs.2 h1 h2
  unfold behP
  cases hq : nextP tp n s with
  | inl e => rw [hq] at sn; exact SE_nu hh sn
  | inr s1 =>
    rw [hq] at sn
    exact sim_num ht hn hh (next_ok hn hs hq).1.2.1 sn
theorem sim_per (ht : tpOk tp) (hn : n ≤ 120) {key g r h : Nat} (hh : h ≤ 100000) (hk : key < 13) {s : ps} {m : ms} (hs : psOk n s) (hm : SR s m) (hw : m.1 = s.1) (hg : g = wN s.1 - 1) : SNW (perP tp n key r h s) (peM tp n (wK key) g r h m) := by
  obtain ⟨w, a, b, k, v⟩ := s
  obtain ⟨w', a', b', k', v', f⟩ := m
  have hm0 := hm
  obtain ⟨rfl, e1, e2, htk⟩ := hm0
  by_cases c : k = 2 ∧ v = key
  · have hc : k' = 1 ∧ v' = wK key := by
      rcases htk with z | z | ⟨z1, z2, z3, z4⟩ | z
      · omega
      · omega
      · exact ⟨z2, by rw [z4, c.2]⟩
      · omega
    rw [pe_y c, peM_y rfl hc]
    have sb := sim_beh ht hn hh (m := (w', a', b', k', v', none)) hs.w rfl e1
    have hw2 := (nuM_w (tp := tp) (n := n) (h := h) (nextM tp n (w', a', b', k', v', none))).trans (nextM_f _).2
    cases hq : behP tp n h (w, a, b, k, v) with
    | inl e => rw [hq] at sb; exact SE_pe2 sb
    | inr q =>
      rw [hq] at sb
      have hb := (beh_ok hn hs hq).2.1
      obtain ⟨z, w2, a2, b2, k2, v2⟩ := q
      rcases hx : nuM tp n h (nextM tp n (w', a', b', k', v', none)) with ⟨z3, w3, a3, b3, k3, v3, f3⟩
      rw [hx] at sb hw2
      obtain ⟨q1, q2⟩ := sb
      have hf : f3 = none := q2.1
      rw [show peM2 g r (z3, w3, a3, b3, k3, v3, f3) = (u2 w3 (2 + r) g (nI z3), a3, b3, k3, v3, f3) from if_pos hf]
      have q1 : z3 = z := q1
      have hw2 : w3 = w' := hw2
      have hb : w2 = w := hb
      have hw : w' = w := hw
      subst q1 hw2 hb
      subst hw
      exact ⟨q2, by rw [hg]⟩
  · rw [pe_n c, peM_n]
    · exact ⟨hm, hw⟩
    · intro ⟨_, c2, c3⟩
      rcases htk with z | z | ⟨z1, z2, z3, z4⟩ | z
      · omega
      · omega
      · exact c ⟨z1, wK_inj v z3 key hk (by omega)⟩
      · omega
def perT (tp : Nat → Int32) (n : Nat) (s : ps) : Nat ⊕ ps := match perP tp n 10 2 10 s with
  | .inl b => .inl b
  | .inr s3 => match perP tp n 11 3 65536 s3 with
    | .inl b => .inl b
    | .inr s4 => perP tp n 12 4 10000 s4
theorem sim_tail (ht : tpOk tp) (hn : n ≤ 120) {g : Nat} {s : ps} {m : ms} (hs : psOk n s) (hm : SR s m) (hw : m.1 = s.1) (hg : g = wN s.1 - 1) : SNW (perT tp n s) (peM tp n 242911 g 4 10000 (peM tp n 6132988 g 3 65536 (peM tp n 307058 g 2 10 m))) := by
  unfold perT
  have s1 := sim_per ht hn (g := g) (key := 10) (r := 2) (h := 10) (by decide) (by decide) hs hm hw hg
  cases h1 : perP tp n 10 2 10 s with
  | inl e => rw [h1] at s1; exact SE_pe (key := 12) (by decide) (SE_pe (key := 11) (by decide) s1)
  | inr t1 =>
    rw [h1] at s1
    obtain ⟨o1, o2, -⟩ := per_ok hn hs (Or.inl ⟨rfl, rfl⟩) h1
    have s2 := sim_per ht hn (g := g) (key := 11) (r := 3) (h := 65536) (by decide) (by decide) o1 s1.1 s1.2 (by rw [o2]; exact hg)
    show SNW (match perP tp n 11 3 65536 t1 with | .inl b => .inl b | .inr s4 => perP tp n 12 4 10000 s4) _
    cases h2 : perP tp n 11 3 65536 t1 with
    | inl e => rw [h2] at s2; exact SE_pe (key := 12) (by decide) s2
    | inr t2 =>
      rw [h2] at s2
      obtain ⟨p1, p2, -⟩ := per_ok hn o1 (Or.inr (Or.inl ⟨rfl, rfl⟩)) h2
      exact sim_per ht hn (g := g) (key := 12) (r := 4) (h := 10000) (by decide) (by decide) p1 s2.1 s2.2 (by rw [p2, o2]; exact hg)
theorem add_in (w : wd) (kd z : Int32) : u2 (addw w kd 0) (2 + 1) (wN w) z = addw w kd z := by
  unfold addw
  funext r c
  simp only [u2_at]
  by_cases h1 : r = 1
  · subst h1; simp
  · by_cases h2 : r = 3
    · subst h2
      by_cases h3 : c = wN w
      · subst h3; simp
      · simp [h3]
    · simp [h1, h2]
end SP
