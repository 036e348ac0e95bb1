/-! both readers agree: the text -/
def ST : Nat ⊕ (Nat × ps) → Nat × ms → Prop
  | .inl e, q => q.2.2.2.2.2.2 = some e
  | .inr p, q => q.2.2.2.2.2.2 = none ∧ q.1 = p.1 ∧ q.2.1 = p.2.1
section SY
variable {tp : Nat → Int32} {n : Nat}
theorem SE_lp {e g c : Nat} {m : ms} (hg : 0 < g) (h : SE e m) : (lpM tp n g c m).2.2.2.2.2.2 = some e := by
  obtain ⟨w, a, b, k, v, f⟩ := m
  rcases h with h | ⟨h1, h2, h3⟩
  · rw [lp_x (fun z => by rw [h] at z; cases z.1) (fun _ => hg), en_n (fun z => by rw [h] at z; cases z.1)]; exact h
  · have hk : ¬ k = 3 ∧ ¬ k = 0 := by rcases h3 with z | ⟨z, _⟩ | ⟨z, _⟩ <;> omega
    rw [lp_x (fun z => hk.1 z.2) (fun _ => hg), en_y h1 hk.2]
    show (if f = none then some b else f) = some e
    rw [if_pos h1, h2]
theorem sim_lp (ht : tpOk tp) (hn : n ≤ 120) : ∀ (g c : Nat) (s : ps) (m : ms), psOk n s → SR s m → m.1 = s.1 → n - s.2.1 + 1 < g → ST (whoP tp n g c s) (lpM tp n g c m) := by
  intro g
  induction g with
  | zero => intro c s m _ _ _ h; omega
  | succ g ih =>
    intro c s m hs hm hw hg
    have hf := SR_f hm
    have sn := sim_nx ht hn hs.2.1 hf.1 hf.2.1
    have hnf := nextM_f (tp := tp) (n := n) m
    have hwr := SR_wr hm
    obtain ⟨w, a, b, k, v⟩ := s
    obtain ⟨w', a', b', k', v', f⟩ := m
    have htk := hm.2.2.2
    have hfn : f = none := hf.1
    by_cases c3 : k = 3
    · have hk3 : k' = 3 := by rcases htk with z | z | z | z <;> omega
      rw [wh_3 c3, lp_y hfn hk3]
      cases hq : nextP tp n (w, a, b, k, v) with
      | inl e =>
        rw [hq] at sn
        exact SE_lp (by omega) (SE_it (hnf.1.trans hfn) sn)
      | inr s1 =>
        rw [hq] at sn
        obtain ⟨o1, o2, o3, o4, o5⟩ := next_ok hn hs.w hq
        have si := sim_it ht hn o1 sn (hnf.2.trans (hw.trans o2.symm))
        show ST (match iteP tp n s1 with | .inl b => .inl b | .inr s2 => whoP tp n g (c + 1) s2) _
        cases hi : iteP tp n s1 with
        | inl e => rw [hi] at si; exact SE_lp (by omega) si
        | inr s2 =>
          rw [hi] at si
          have p1 := o5 (ite_2 hi)
          obtain ⟨p2, p3⟩ := ite_ok hn o1 hi
          have p1 : a < s1.2.1 := p1
          have hg : n - a + 1 < g + 1 := hg
          have := p2.2.1
          exact ih (c + 1) s2 _ p2 si.1 si.2 (by omega)
    · have hk3 : ¬ k' = 3 := by rcases htk with z | z | z | z <;> omega
      by_cases c0 : k = 0
      · have hk0 : k' = 0 := by rcases htk with z | z | z | z <;> omega
        rw [wh_0 c0, lp_x (fun z => hk3 z.2) (fun _ => by omega), en_n (fun z => z.2 hk0)]
        exact ⟨hfn, rfl, hw⟩
      · have hk0 : ¬ k' = 0 := by rcases htk with z | z | z | z <;> omega
        rw [wh_x c3 c0, lp_x (fun z => hk3 z.2) (fun _ => by omega), en_y hfn hk0]
        show (if f = none then some b' else f) = some b
        rw [if_pos hfn, hm.2.2.1]
theorem sim_txt (ht : tpOk tp) (hn : n ≤ 120) {w : wd} (hw : wOk w) (a b k v a' b' k' v' : Nat) (f : Option Nat) : ST (txtP tp n (w, a, b, k, v)) (isM tp n (w, a', b', k', v', f)) := by
  have hz : psW n (w, 0, b, k, v) := ⟨hw, Nat.zero_le _⟩
  have sn := sim_nx ht hn (s := (w, 0, b, k, v)) (m := (w, 0, b', k', v', none)) (Nat.zero_le _) rfl rfl
  have hnf := nextM_f (tp := tp) (n := n) (w, 0, b', k', v', none)
  show ST (match nextP tp n (w, 0, b, k, v) with | .inl b => .inl b | .inr s1 => match iteP tp n s1 with | .inl b => .inl b | .inr s2 => whoP tp n 200 1 s2) (lpM tp n 200 1 (itM tp n (nextM tp n (w, 0, b', k', v', none))))
  cases hq : nextP tp n (w, 0, b, k, v) with
  | inl e => rw [hq] at sn; exact SE_lp (by decide) (SE_it hnf.1 sn)
  | inr s1 =>
    rw [hq] at sn
    obtain ⟨o1, o2, -⟩ := next_ok hn hz hq
    have si := sim_it ht hn o1 sn (hnf.2.trans o2.symm)
    show ST (match iteP tp n s1 with | .inl b => .inl b | .inr s2 => whoP tp n 200 1 s2) _
    cases hi : iteP tp n s1 with
    | inl e => rw [hi] at si; exact SE_lp (by decide) si
    | inr s2 =>
      rw [hi] at si
      obtain ⟨p2, -⟩ := ite_ok hn o1 hi
      exact sim_lp ht hn 200 1 s2 _ p2 si.1 si.2 (by omega)
end SY
