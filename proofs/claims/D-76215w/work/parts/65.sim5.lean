/-! both readers agree: a saying, a hand, an item -/
section SA
variable {tp : Nat → Int32} {n : Nat}
theorem sim_numG (ht : tpOk tp) (hn : n ≤ 120) {h : Nat} (hh : h ≤ 100000) {s : ps} {m : ms} (ha : s.2.1 ≤ n) (hs : SR s m) : SI (numP tp n h s) (nuG tp n h m) := by
  have e : nuG tp n h m = nuM tp n h m := by
    obtain ⟨w, a, b, k, v, f⟩ := m
    exact nug_y (SR_f hs).1
  rw [e]; exact sim_num ht hn hh ha hs
theorem nuG_w {h : Nat} (m : ms) : (nuG tp n h m).2.1 = m.1 := by
  obtain ⟨w, a, b, k, v, f⟩ := m
  by_cases c : f = none
  · rw [nug_y c]; exact nuM_w _
  · rw [nug_n c]
theorem sim_sa (ht : tpOk tp) (hn : n ≤ 120) {s : ps} {m : ms} (hs : psOk n s) (hm : SR s m) (hw : m.1 = s.1) : SNW (saiP tp n s) (saM tp n m) := by
  have hf := SR_f hm
  have s1 := sim_beh ht hn (h := 6) (by decide) (m := m) hs.w hf.1 hf.2.1
  have w1 : (nuM tp n 6 (nextM tp n m)).2.1 = s.1 := ((nuM_w _).trans (nextM_f m).2).trans hw
  unfold saiP saM sa1
  generalize nuM tp n 6 (nextM tp n m) = p1 at s1 w1
  cases h1 : behP tp n 6 s with
  | inl e => rw [h1] at s1; exact SE_sa2 (SE_nuG (by decide) (SE_nuG (by decide) (SE_nuG (by decide) s1)))
  | inr q1 =>
    rw [h1] at s1
    obtain ⟨o1, o2, -, -⟩ := beh_ok hn hs h1
    have s2 := sim_numG ht hn (h := 6) (by decide) o1.2.1 s1.2
    have w2 : (nuG tp n 6 p1.2).2.1 = s.1 := (nuG_w _).trans w1
    generalize nuG tp n 6 p1.2 = p2 at s2 w2
    show SNW (match numP tp n 6 q1.2 with | .inl b => .inl b | .inr q2 => _) _
    cases h2 : numP tp n 6 q1.2 with
    | inl e => rw [h2] at s2; exact SE_sa2 (SE_nuG (by decide) (SE_nuG (by decide) s2))
    | inr q2 =>
      rw [h2] at s2
      obtain ⟨r1, r2, -, -⟩ := num_ok hn o1 h2
      have s3 := sim_numG ht hn (h := 16) (by decide) r1.2.1 s2.2
      have w3 : (nuG tp n 16 p2.2).2.1 = s.1 := (nuG_w _).trans w2
      generalize nuG tp n 16 p2.2 = p3 at s3 w3
      show SNW (match numP tp n 16 q2.2 with | .inl b => .inl b | .inr q3 => _) _
      cases h3 : numP tp n 16 q2.2 with
      | inl e => rw [h3] at s3; exact SE_sa2 (SE_nuG (by decide) s3)
      | inr q3 =>
        rw [h3] at s3
        obtain ⟨t1, t2, -, -⟩ := num_ok hn r1 h3
        have s4 := sim_numG ht hn (h := 10) (by decide) t1.2.1 s3.2
        have w4 : (nuG tp n 10 p3.2).2.1 = s.1 := (nuG_w _).trans w3
        generalize nuG tp n 10 p3.2 = p4 at s4 w4
        show SNW (match numP tp n 10 q3.2 with | .inl b => .inl b | .inr q4 => _) _
        cases h4 : numP tp n 10 q3.2 with
        | inl e => rw [h4] at s4; exact SE_sa2 s4
        | inr q4 =>
          rw [h4] at s4
          obtain ⟨v1, v2, -, -⟩ := num_ok hn t1 h4
          obtain ⟨z4, w5, a5, b5, k5, v5, f5⟩ := p4
          have hf5 := (SR_f s4.2).1
          have hf5 : f5 = none := hf5
          rw [show sa2 p1.1 p2.1 p3.1 (z4, w5, a5, b5, k5, v5, f5) = (u2 w5 0 p1.1 (syI (nI p2.1) (nI p3.1) (nI z4)), a5, b5, k5, v5, f5) from if_pos hf5]
          have e4 : z4 = q4.1 := s4.1
          have w4 : w5 = s.1 := w4
          obtain ⟨z6, w6, a6, b6, k6, v6⟩ := q4
          have v2 : w6 = q3.2.1 := v2
          refine ⟨s4.2, ?_⟩
          show u2 w5 0 p1.1 (syI (nI p2.1) (nI p3.1) (nI z4)) = u2 w6 0 q1.1 (syI (nI q2.1) (nI q3.1) (nI z6))
          rw [s1.1, s2.1, s3.1, e4, w4, v2, t2, r2, o2]
theorem sim_ha (ht : tpOk tp) (hn : n ≤ 120) {s : ps} {m : ms} (hs : psOk n s) (hm : SR s m) (hw : m.1 = s.1) : SNW (hanP tp n s) (haM tp n m) := by
  have hf := SR_f hm
  have h8 := (wOk.n hs.1).2
  have hwn : (nextM tp n m).1 = s.1 := (nextM_f m).2.trans hw
  have s1 := sim_beh ht hn (h := wN s.1) (by omega) (m := m) hs.w hf.1 hf.2.1
  have w1 : (nuM tp n (wN s.1) (nextM tp n m)).2.1 = s.1 := (nuM_w _).trans hwn
  have em : haM tp n m = hyM tp n (nuM tp n (wN s.1) (nextM tp n m)) := by
    unfold haM
    rcases hx : nextM tp n m with ⟨w, a, b, k, v, f⟩
    rw [hx] at hwn
    have hwn : w = s.1 := hwn
    show hyM tp n (nuM tp n (wN w) (w, a, b, k, v, f)) = _
    rw [hwn]
  rw [em]
  unfold hanP hyM
  generalize nuM tp n (wN s.1) (nextM tp n m) = p1 at s1 w1
  cases h1 : behP tp n (wN s.1) s with
  | inl e => rw [h1] at s1; exact SE_pe2 (SE_nuG (by decide) s1)
  | inr q1 =>
    rw [h1] at s1
    obtain ⟨o1, o2, -, -⟩ := beh_ok hn hs h1
    have s2 := sim_numG ht hn (h := 65536) (by decide) o1.2.1 s1.2
    have w2 : (nuG tp n 65536 p1.2).2.1 = s.1 := (nuG_w _).trans w1
    generalize nuG tp n 65536 p1.2 = p2 at s2 w2
    show SNW (match numP tp n 65536 q1.2 with | .inl b => .inl b | .inr q2 => _) _
    cases h2 : numP tp n 65536 q1.2 with
    | inl e => rw [h2] at s2; exact SE_pe2 s2
    | inr q2 =>
      rw [h2] at s2
      obtain ⟨r1, r2, -, -⟩ := num_ok hn o1 h2
      obtain ⟨z4, w5, a5, b5, k5, v5, f5⟩ := p2
      have hf5 : f5 = none := (SR_f s2.2).1
      rw [show peM2 p1.1 5 (z4, w5, a5, b5, k5, v5, f5) = (u2 w5 (2 + 5) p1.1 (nI z4), a5, b5, k5, v5, f5) from if_pos hf5]
      obtain ⟨z6, w6, a6, b6, k6, v6⟩ := q2
      have e4 : z4 = z6 := s2.1
      have w2 : w5 = s.1 := w2
      have r2 : w6 = q1.2.1 := r2
      refine ⟨s2.2, ?_⟩
      show u2 w5 (2 + 5) p1.1 (nI z4) = u2 w6 (2 + 5) q1.1 (nI z6)
      rw [s1.1, e4, w2, r2, o2]
end SA
