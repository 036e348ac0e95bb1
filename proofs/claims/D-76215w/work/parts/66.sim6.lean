/-! both readers agree: an item, the text -/
section SX
variable {tp : Nat → Int32} {n : Nat}
theorem kd_w : ∀ v, v < 13 → kdN 1 (wK v) = if v < 7 then v else 7 := by decide +kernel
theorem kd_v {k v : Nat} (h : kdN k v < 7) : k = 1 ∧ ∃ j, j < 13 ∧ v = wK j := by
  unfold kdN at h
  repeat' split at h
  all_goals first
    | (rename_i c; exact ⟨c.1, 0, by decide, c.2⟩)
    | (rename_i c; exact ⟨c.1, 1, by decide, c.2⟩)
    | (rename_i c; exact ⟨c.1, 2, by decide, c.2⟩)
    | (rename_i c; exact ⟨c.1, 3, by decide, c.2⟩)
    | (rename_i c; exact ⟨c.1, 4, by decide, c.2⟩)
    | (rename_i c; exact ⟨c.1, 5, by decide, c.2⟩)
    | (rename_i c; exact ⟨c.1, 6, by decide, c.2⟩)
    | (exact absurd h (by decide))
theorem sim_it (ht : tpOk tp) (hn : n ≤ 120) {s : ps} {m : ms} (hs : psOk n s) (hm : SR s m) (hw : m.1 = s.1) : SNW (iteP tp n s) (itM tp n m) := by
  have hwr := SR_wr hm
  have hgl := fun kd (hk : kd < 7) => sim_gl ht hn hk hs hm hw
  have hsa := sim_sa ht hn hs hm hw
  have hha := sim_ha ht hn hs hm hw
  obtain ⟨w, a, b, k, v⟩ := s
  obtain ⟨w', a', b', k', v', f⟩ := m
  have htk := hm.2.2.2
  by_cases c : k = 2
  · obtain ⟨z1, z2, z3⟩ : k' = 1 ∧ v < 13 ∧ v' = wK v := by
      rcases htk with z | z | ⟨_, z2, z3, z4⟩ | z
      · omega
      · omega
      · exact ⟨z2, z3, z4⟩
      · omega
    have hkd := kd_w v z2
    subst z1 z3
    by_cases c7 : v < 7
    · rw [if_pos c7] at hkd
      rw [it_g c c7, itM_g (by rw [hkd]; exact c7), hkd]
      exact hgl v c7
    · rw [if_neg c7] at hkd
      by_cases e7 : v = 7
      · rw [it_7 c e7, itM_s hkd ⟨rfl, by rw [e7]; rfl⟩]; exact hsa
      · have n7 : ¬ ((1 : Nat) = 1 ∧ wK v = 374953) := fun z => e7 (wK_inj v z2 7 (by decide) (by rw [z.2]; rfl))
        by_cases e8 : v = 8
        · rw [it_8 c e8, itM_h hkd n7 ⟨rfl, by rw [e8]; rfl⟩]; exact hha
        · have n8 : ¬ ((1 : Nat) = 1 ∧ wK v = 158575) := fun z => e8 (wK_inj v z2 8 (by decide) (by rw [z.2]; rfl))
          rw [it_n (by omega), itM_x hkd n7 n8]; exact hwr
  · have hk : ¬ k' = 1 := by
      rcases htk with z | z | ⟨z1, _, _, _⟩ | z <;> omega
    have hkd : kdN k' v' = 7 := by
      have h1 := kd_7 k' v'
      by_cases q : kdN k' v' < 7
      · exact absurd (h1.2 q) hk
      · omega
    rw [it_n (fun z => c z.1), itM_x hkd (fun z => hk z.1) (fun z => hk z.1)]
    exact hwr
theorem SE_it {e : Nat} {m : ms} (hf : m.2.2.2.2.2 = none) (h : SE e m) : SE e (itM tp n m) := by
  obtain ⟨w, a, b, k, v, f⟩ := m
  have hf : f = none := hf
  rcases h with h | ⟨h1, h2, h3⟩
  · rw [hf] at h; cases h
  · have hv : k = 1 → ∀ j, j < 13 → v ≠ wK j := by
      intro z
      rcases h3 with h3 | ⟨_, h3⟩ | ⟨h3, _⟩
      · omega
      · exact h3
      · omega
    have hkd : kdN k v = 7 := by
      by_cases q : kdN k v < 7
      · obtain ⟨q1, j, q2, q3⟩ := kd_v q
        exact absurd q3 (hv q1 j q2)
      · have := (kd_7 k v).1; omega
    rw [itM_x hkd (fun z => hv z.1 7 (by decide) z.2) (fun z => hv z.1 8 (by decide) z.2)]
    exact SE_wr (Or.inr ⟨h1, h2, h3⟩)
end SX
