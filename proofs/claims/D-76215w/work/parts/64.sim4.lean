/-! both readers agree: a glove -/
section SG
variable {tp : Nat → Int32} {n : Nat}
theorem SE_gl2 {e kd : Nat} {m : ms} (h : SE e m) : SE e (gl2 tp n kd m) := by
  obtain ⟨w, a, b, k, v, f⟩ := m
  exact SE_pe (key := 12) (by decide) (SE_pe (key := 11) (by decide) (SE_pe (key := 10) (by decide) (SE_pe (key := 9) (by decide) (SE_w h))))
theorem sim_gl2 (ht : tpOk tp) (hn : n ≤ 120) {kd : Nat} (hk : kd < 7) {s : ps} {m : ms} (hs : psOk n s) (hm : SR s m) (hw : m.1 = s.1) (h8 : wN s.1 < 8) : SNW (match gl1P tp n s with | .inl b => .inl b | .inr q => perT tp n (addw q.2.1 (nI kd) (nI q.1), q.2.2)) (gl2 tp n kd m) := by
  obtain ⟨w, a, b, k, v⟩ := s
  obtain ⟨w', a', b', k', v', f⟩ := m
  have hm0 := hm
  obtain ⟨rfl, e1, e2, htk⟩ := hm0
  have hw : w' = w := hw
  subst hw
  show SNW _ (peM tp n 242911 (wN w') 4 10000 (peM tp n 6132988 (wN w') 3 65536 (peM tp n 307058 (wN w') 2 10 (peM tp n 257 (wN w') 1 6 (addw w' (nI kd) 0, a', b', k', v', none)))))
  by_cases c : k = 2 ∧ v = 9
  · have hc : k' = 1 ∧ v' = 257 := by
      rcases htk with z | z | ⟨z1, z2, z3, z4⟩ | z
      · omega
      · omega
      · exact ⟨z2, by rw [z4, c.2]; rfl⟩
      · omega
    rw [gl_1 c, peM_y rfl hc]
    have sb := sim_beh ht hn (h := 6) (by decide) (m := (addw w' (nI kd) 0, a', b', k', v', none)) hs.w rfl e1
    have hw2 := (nuM_w (tp := tp) (n := n) (h := 6) (nextM tp n (addw w' (nI kd) 0, a', b', k', v', none))).trans (nextM_f _).2
    cases hq : behP tp n 6 (w', a, b, k, v) with
    | inl e =>
      rw [hq] at sb
      exact SE_pe (key := 12) (by decide) (SE_pe (key := 11) (by decide) (SE_pe (key := 10) (by decide) (SE_pe2 sb)))
    | inr q =>
      rw [hq] at sb
      obtain ⟨o1, o2, o3, -⟩ := beh_ok hn hs hq
      obtain ⟨z, w2, a2, b2, k2, v2⟩ := q
      rcases hx : nuM tp n 6 (nextM tp n (addw w' (nI kd) 0, a', b', k', v', none)) with ⟨z3, w3, a3, b3, k3, v3, f3⟩
      rw [hx] at sb hw2
      obtain ⟨q1, q2⟩ := sb
      have hf : f3 = none := q2.1
      rw [show peM2 (wN w') 1 (z3, w3, a3, b3, k3, v3, f3) = (u2 w3 (2 + 1) (wN w') (nI z3), a3, b3, k3, v3, f3) from if_pos hf]
      have q1 : z3 = z := q1
      have hw2 : w3 = addw w' (nI kd) 0 := hw2
      have o2 : w2 = w' := o2
      subst q1
      subst hw2
      subst o2
      rw [add_in]
      have o3 : z3 < 6 := o3
      have hO : psOk n (addw w2 (nI kd) (nI z3), a2, b2, k2, v2) := ⟨wOk_add o1.1 ⟨_, hk, rfl⟩ ⟨_, o3, rfl⟩ h8, o1.2⟩
      exact sim_tail ht hn hO q2 rfl (by show wN w2 = wN (addw w2 (nI kd) (nI z3)) - 1; rw [wN_add h8]; rfl)
  · have hc : ¬ ((none : Option Nat) = none ∧ k' = 1 ∧ v' = 257) := by
      intro ⟨_, c2, c3⟩
      rcases htk with z | z | ⟨z1, z2, z3, z4⟩ | z
      · omega
      · omega
      · exact c ⟨z1, wK_inj v z3 9 (by decide) (by rw [← z4, c3]; rfl)⟩
      · omega
    rw [gl_0 c, peM_n hc]
    have hO : psOk n (addw w' (nI kd) (nI 0), a, b, k, v) := ⟨wOk_add hs.1 ⟨_, hk, rfl⟩ ⟨0, by decide, rfl⟩ h8, hs.2⟩
    exact sim_tail ht hn hO (show SR (addw w' (nI kd) (nI 0), a, b, k, v) (addw w' (nI kd) 0, a', b', k', v', none) from hm) rfl (by show wN w' = wN (addw w' (nI kd) (nI 0)) - 1; rw [wN_add h8]; rfl)
theorem SR_wr {s : ps} {m : ms} (h : SR s m) : SE s.2.2.1 (wrM m) := by
  obtain ⟨w, a, b, k, v⟩ := s
  obtain ⟨w', a', b', k', v', f⟩ := m
  obtain ⟨rfl, e1, e2, htk⟩ := h
  exact Or.inl (by show (if (none : Option Nat) = none then some b' else none) = some b; rw [if_pos rfl, e2])
theorem sim_gl (ht : tpOk tp) (hn : n ≤ 120) {kd : Nat} (hk : kd < 7) {s : ps} {m : ms} (hs : psOk n s) (hm : SR s m) (hw : m.1 = s.1) : SNW (gloP tp n kd s) (glM tp n kd m) := by
  have hf := SR_f hm
  have h8 := (wOk.n hs.1).2
  have em : ∀ m : ms, glM tp n kd m = if wN m.1 = 8 then wrM m else gl2 tp n kd (nextM tp n m) := fun m => by obtain ⟨w, a, b, k, v, f⟩ := m; rfl
  rw [em, hw]
  by_cases c : wN s.1 < 8
  · rw [if_neg (by omega)]
    unfold gloP
    rw [if_pos c]
    have sn := sim_nx ht hn hs.2.1 hf.1 hf.2.1
    cases hq : nextP tp n s with
    | inl e => rw [hq] at sn; exact SE_gl2 sn
    | inr s1 =>
      rw [hq] at sn
      obtain ⟨o1, o2, -⟩ := next_ok hn hs.w hq
      exact sim_gl2 ht hn hk o1 sn ((nextM_f m).2.trans (hw.trans o2.symm)) (by rw [o2]; exact c)
  · rw [if_pos (by omega)]
    unfold gloP
    rw [if_neg c]
    exact SR_wr hm
end SG
