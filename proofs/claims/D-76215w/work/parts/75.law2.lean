/-! sheets, texts, images: both sides alike -/
theorem shR_q {q q' : Nat → shv} (h : ∀ s, s < 4 → shR (q s) (q' s)) (s : Int32) : (∃ k, shq q s = .inl k ∧ shq q' s = .inl k) ∨ (∃ z z', shq q s = .inr z ∧ shq q' s = .inr z' ∧ shR (some z) (some z') ∧ ∃ k, k < 4 ∧ s = nI k ∧ q k = some z ∧ q' k = some z') := by
  by_cases h1 : inI s 0 3 = 0
  · exact Or.inl ⟨0, shq_0 h1, shq_0 h1⟩
  · obtain ⟨k, hk, rfl⟩ := inI_to (b := 3) rfl (by decide) h1
    have hk4 : k < 4 := by omega
    have hh := h k hk4
    cases e1 : q k with
    | none =>
      cases e2 : q' k with
      | none => exact Or.inl ⟨5, shq_n hk4 e1, shq_n hk4 e2⟩
      | some z' => rw [e1, e2] at hh; exact absurd hh (fun z => z)
    | some z =>
      cases e2 : q' k with
      | none => rw [e1, e2] at hh; exact absurd hh (fun z => z)
      | some z' =>
        rw [e1, e2] at hh
        exact Or.inr ⟨z, z', shq_s hk4 e1, shq_s hk4 e2, hh, k, hk4, rfl, e1, e2⟩
theorem write_c {q q' : Nat → shv} (h : ∀ s, s < 4 → shR (q s) (q' s)) (s i v : Int32) : a_write q' s i v = a_write q s i v := by
  unfold a_write
  rcases shR_q h s with ⟨k, e1, e2⟩ | ⟨z, z', e1, e2, ⟨r1, r2, r3⟩, -⟩
  · rw [e1, e2]
  · rw [e1, e2]
    show (if inI i 0 (nI z'.2.1 - 1) = 0 then _ else _) = (if inI i 0 (nI z.2.1 - 1) = 0 then _ else _)
    rw [r1, r2]
theorem itr_cg {α : Type} {g g' : Nat → α → α} {a : α} : ∀ n, (∀ i, i < n → g i = g' i) → itr g a n = itr g' a n := by
  intro n
  induction n with
  | zero => intro _; rfl
  | succ n ih => intro h; rw [itr_s, itr_s, ih (fun i hi => h i (by omega)), h n (by omega)]
theorem ldP_c {z z' : Nat × Nat × (Nat → Int32)} (h : shR (some z) (some z')) : ldP z' = ldP z := by
  obtain ⟨r1, r2, r3⟩ := h
  funext i
  unfold ldP
  by_cases hi : i < z.2.1
  · rw [← r2, r3 i hi]
  · have : ¬ i < z'.2.1 := by rw [← r2]; exact hi
    simp [hi, this]
theorem juP_c {f : wd} {z z' : Nat × Nat × (Nat → Int32)} (h : shR (some z) (some z')) : juP f z' = juP f z := by
  obtain ⟨r1, r2, r3⟩ := h
  funext i
  unfold juP
  by_cases hi : i < z.2.1
  · rw [← r2, r3 i hi]
  · have : ¬ i < z'.2.1 := by rw [← r2]; exact hi
    simp [hi, this]
theorem load_c {q q' : Nat → shv} (h : ∀ s, s < 4 → shR (q s) (q' s)) (f : wd) (s : Int32) : a_load q' f s = a_load q f s := by
  unfold a_load
  rcases shR_q h s with ⟨k, e1, e2⟩ | ⟨z, z', e1, e2, hr, -⟩
  · rw [e1, e2]
  · rw [e1, e2]
    have eN : ldN z' = ldN z := by unfold ldN; rw [ldP_c hr]
    have eW : ldW z' f (ldN z) = ldW z f (ldN z) := by
      unfold ldW
      refine itr_cg _ fun i hi => ?_
      have := fstB_b 7 0 i (Nat.zero_le _) hi
      unfold ldP at this
      have this := of_decide_eq_false this
      have hlt : i < z.2.1 := Classical.byContradiction fun c => this (fun z => c z.1)
      funext w
      rw [hr.2.2 i hlt]
    show (.inr (nI (ldN z'), ldW z' f (ldN z')) : act) = .inr (nI (ldN z), ldW z f (ldN z))
    rw [eN, eW]
theorem judge_c {q q' : Nat → shv} (h : ∀ s, s < 4 → shR (q s) (q' s)) (f : wd) (s : Int32) : a_judge q' f s = a_judge q f s := by
  unfold a_judge
  rcases shR_q h s with ⟨k, e1, e2⟩ | ⟨z, z', e1, e2, hr, -⟩
  · rw [e1, e2]
  · rw [e1, e2]
    have eN : juN f z' = juN f z := by unfold juN; rw [juP_c hr]
    show (.inr (if juN f z' = z'.2.1 then 0 else nI (1 + juN f z'), f) : act) = .inr (if juN f z = z.2.1 then 0 else nI (1 + juN f z), f)
    rw [eN, hr.2.1]
theorem fits_c {q q' : Nat → shv} (h : ∀ s, s < 4 → shR (q s) (q' s)) (r many : Nat) (f : wd) (s g : Int32) : a_fits r many q' f s g = a_fits r many q f s g := by
  unfold a_fits
  rcases shR_q h s with ⟨k, e1, e2⟩ | ⟨z, z', e1, e2, hr, -⟩
  · rw [e1, e2]
  · rw [e1, e2]
    have eW : ∀ f k, wsoI f k z' = wsoI f k z := by
      intro f k
      unfold wsoI
      rw [← hr.2.1]
      refine itr_cg _ fun i hi => ?_
      funext a
      unfold wsoS
      rw [hr.2.2 i hi]
    have eF : ftI f g.toNatClampNeg r many z' = ftI f g.toNatClampNeg r many z := by
      unfold ftI
      refine itr_cg _ fun i hi => ?_
      funext a
      unfold ftS
      rw [eW]
    show (if isGlI f g = 0 then _ else .inr (ftI f g.toNatClampNeg r many z', f) : act) = if isGlI f g = 0 then _ else .inr (ftI f g.toNatClampNeg r many z, f)
    rw [eF]
theorem copy_c {q q' : Nat → shv} (h : ∀ s, s < 4 → shR (q s) (q' s)) (s fr t to n : Int32) : a_copy q' s fr t to n = a_copy q s fr t to n := by
  by_cases h1 : inI s 0 3 = 0
  · rw [cp_0a h1, cp_0a h1]
  · by_cases h2 : inI t 0 3 = 0
    · rw [cp_0b h2, cp_0b h2]
    · obtain ⟨k, hk, rfl⟩ := inI_to (b := 3) rfl (by decide) h1
      obtain ⟨k2, hk2, rfl⟩ := inI_to (b := 3) rfl (by decide) h2
      have hk : k < 4 := by omega
      have hk2 : k2 < 4 := by omega
      have r1 := h k hk
      have r2 := h k2 hk2
      cases e1 : q k with
      | none =>
        cases e1' : q' k with
        | none => rw [cp_5 hk hk2 (Or.inl e1), cp_5 hk hk2 (Or.inl e1')]
        | some z' => rw [e1, e1'] at r1; exact absurd r1 (fun z => z)
      | some z =>
        cases e1' : q' k with
        | none => rw [e1, e1'] at r1; exact absurd r1 (fun z => z)
        | some z' =>
          cases e2 : q k2 with
          | none =>
            cases e2' : q' k2 with
            | none => rw [cp_5 hk hk2 (Or.inr e2), cp_5 hk hk2 (Or.inr e2')]
            | some z' => rw [e2, e2'] at r2; exact absurd r2 (fun z => z)
          | some y =>
            cases e2' : q' k2 with
            | none => rw [e2, e2'] at r2; exact absurd r2 (fun z => z)
            | some y' =>
              rw [e1, e1'] at r1
              rw [e2, e2'] at r2
              rw [cp_s hk hk2 e1 e2, cp_s hk hk2 e1' e2', ← r1.1, ← r2.1, ← r1.2.1, ← r2.2.1]
/-- one sheet is another, the rest stay -/
theorem Sim_sh {n : Nat} {x : cst} {y y' : mst} (h : Sim n x y) {k : Nat} (w : Option (Nat × Nat × Nat × (Nat → Int32))) (hy : y'.1 = y.1) (hr : ∀ r, r < 3 → y'.2.1 r = y.2.1 r) (ho : ∀ s, s < 4 → s ≠ k → y'.2.1 3 s = y.2.1 3 s ∧ y'.2.1 4 s = y.2.1 4 s ∧ ∀ i, i < 40 → y'.2.1 5 (40 * s + i) = y.2.1 5 (40 * s + i)) (hn : ∀ a t m g, w = some (a, t, m, g) → t < 3 ∧ m ≤ 40 ∧ ∀ i, i < m → shn t (g i) = g i) (hmk : (y'.2.1 3 k = 0 ∨ y'.2.1 3 k = 8 ∨ y'.2.1 3 k = 16 ∨ y'.2.1 3 k = 32) ∧ isN (y'.2.1 4 k) 41) (hR : shR (w.map (·.2)) (shMq y' k)) : Sim n (xsh x k w) y' := by
  obtain ⟨⟨h1, h2⟩, ⟨h3, h4⟩, ⟨t, ht, h5, h6⟩, ⟨h7, h8⟩, h9, h10, h11, h12⟩ := h
  refine ⟨⟨by rw [hy]; exact h1, h2⟩, ⟨by rw [hr 0 (by decide)]; exact h3, fun q => by rw [hy]; exact h4 q⟩, ⟨t, ht, h5, by rw [hr 0 (by decide)]; exact h6⟩, ⟨by rw [hr 2 (by decide)]; exact h7, h8⟩, by rw [hr 1 (by decide)]; exact h9, ?_, ?_, ?_⟩
  · intro s hs a t m g hq
    by_cases e : s = k
    · subst e
      rw [xsh_at] at hq
      exact hn a t m g hq
    · rw [xsh_ne e] at hq
      exact h10 s hs a t m g hq
  · intro s hs
    by_cases e : s = k
    · subst e; exact hmk
    · obtain ⟨o1, o2, -⟩ := ho s hs e
      rw [o1, o2]; exact h11 s hs
  · intro s hs
    by_cases e : s = k
    · subst e
      show shR (((xsh x s w).2.2.2 s).map (·.2)) _
      rw [xsh_at]; exact hR
    · obtain ⟨o1, o2, o3⟩ := ho s hs e
      have hh := h12 s hs
      have ec : shC (xsh x k w) s = shC x s := by unfold shC; rw [xsh_ne e]
      rw [ec]
      unfold shMq at hh ⊢
      rw [o1, o2]
      by_cases h0 : y.2.1 3 s = 0
      · rw [if_pos h0] at hh ⊢; exact hh
      · rw [if_neg h0] at hh ⊢
        cases hc : x.2.2.2 s with
        | none =>
          have : shC x s = none := by unfold shC; rw [hc]; rfl
          rw [this] at hh; exact absurd hh (fun z => z)
        | some q =>
          obtain ⟨a, t2, m, g⟩ := q
          have e2 : shC x s = some (t2, m, g) := by unfold shC; rw [hc]; rfl
          rw [e2] at hh ⊢
          obtain ⟨r1, r2, r3⟩ := hh
          have hm40 := (h10 s hs a t2 m g hc).2.1
          refine ⟨r1, r2, fun i hi => ?_⟩
          have hi : i < m := hi
          show g i = y'.2.1 5 (40 * s + i)
          rw [o3 i (by omega)]; exact r3 i hi
theorem shn_2 (t : Nat) (v : Int32) : shn t (shn t v) = shn t v := by
  match t with
  | 0 => show ((v.toInt8.toInt32).toInt8).toInt32 = _; rw [Int8.toInt8_toInt32]; rfl
  | 1 => show ((v.toInt16.toInt32).toInt16).toInt32 = _; rw [Int16.toInt16_toInt32]; rfl
  | _ + 2 => rfl
theorem shC_ex {x : cst} {k : Nat} {z : Nat × Nat × (Nat → Int32)} (h : shC x k = some z) : ∃ a, x.2.2.2 k = some (a, z.1, z.2.1, z.2.2) := by
  unfold shC at h
  cases hc : x.2.2.2 k with
  | none => rw [hc] at h; cases h
  | some q => rw [hc] at h; cases h; exact ⟨q.1, rfl⟩
theorem Sim_write {n : Nat} {x : cst} {y : mst} (h : Sim n x y) (s i v : Int32) : Sim (n + 1) (aCW x (a_write (shC x) s i v)) (aMW y (a_write (shMq y) s i v)) := by
  have h12 := h.2.2.2.2.2.2.2
  rw [write_c h12]
  refine Sim.mono ?_ (Nat.le_succ n)
  cases ha : a_write (shC x) s i v with
  | inl k => exact Sim_fnd h k
  | inr q =>
    unfold a_write at ha
    rcases shR_q h12 s with ⟨k, e1, e2⟩ | ⟨z, z', e1, e2, hr, k, hk, rfl, g1, g2⟩
    · rw [e1] at ha; cases ha
    · rw [e1] at ha
      have ha : (if inI i 0 (nI z.2.1 - 1) = 0 then .inl 0 else .inr ((nI k).toNatClampNeg, i.toNatClampNeg, shn z.1 v) : Nat ⊕ (Nat × Nat × Int32)) = .inr q := ha
      by_cases hi : inI i 0 (nI z.2.1 - 1) = 0
      · rw [if_pos hi] at ha; cases ha
      · rw [if_neg hi] at ha
        cases ha
        obtain ⟨a, hx⟩ := shC_ex g1
        obtain ⟨t3, m40, hsn⟩ := h.2.2.2.2.2.1 k hk _ _ _ _ hx
        obtain ⟨j, hj, rfl⟩ : ∃ j, j < z.2.1 ∧ i = nI j := by
          cases hN : z.2.1 with
          | zero =>
            rw [hN] at hi
            exfalso
            apply hi
            unfold inI
            by_cases h0 : i < 0
            · rw [if_pos h0]
            · rw [if_neg h0, if_pos]
              exact Int32.lt_of_lt_of_le (show nI 0 - 1 < 0 by decide) (Int32.not_lt.mp h0)
          | succ q =>
            rw [hN, nI_pred] at hi
            obtain ⟨k, hk, e2⟩ := inI_to (b := q) rfl (by omega) hi
            exact ⟨k, by omega, e2⟩
        have ek : (nI k).toNatClampNeg = k := nI_clamp (by omega)
        have ej : (nI j).toNatClampNeg = j := nI_clamp (by omega)
        show Sim n (xsh x (nI k).toNatClampNeg ((x.2.2.2 (nI k).toNatClampNeg).map (fun w => (w.1, w.2.1, w.2.2.1, upd w.2.2.2 (nI j).toNatClampNeg (shn z.1 v))))) (yr y 5 (40 * (nI k).toNatClampNeg + (nI j).toNatClampNeg) (shn z.1 v))
        rw [ek, ej, hx]
        have hmk := h.2.2.2.2.2.2.1 k hk
        refine Sim_sh h _ rfl (fun r hr => yr_ne (by omega)) (fun s hs hne => ⟨by rw [yr_ne (by decide)], by rw [yr_ne (by decide)], fun i hi => ?_⟩) (fun a' t' m' g' e => ?_) ⟨by rw [yr_ne (by decide)]; exact hmk.1, by rw [yr_ne (by decide)]; exact hmk.2⟩ ?_
        · rw [yr_at]; unfold upd; rw [if_neg (by omega)]
        · cases e
          refine ⟨t3, m40, fun i hi => ?_⟩
          unfold upd
          by_cases hij : i = j
          · rw [if_pos hij]; exact shn_2 _ _
          · rw [if_neg hij]; exact hsn i hi
        · have e5 : shMq (yr y 5 (40 * k + j) (shn z.1 v)) k = some (z'.1, z'.2.1, fun i => upd (y.2.1 5) (40 * k + j) (shn z.1 v) (40 * k + i)) := by
            unfold shMq at g2 ⊢
            rw [yr_ne (by decide), yr_ne (by decide), yr_at]
            by_cases h0 : y.2.1 3 k = 0
            · rw [if_pos h0] at g2; cases g2
            · rw [if_neg h0] at g2 ⊢; cases g2; rfl
          have e6 : ∀ i, y.2.1 5 (40 * k + i) = z'.2.2 i := by
            unfold shMq at g2
            by_cases h0 : y.2.1 3 k = 0
            · rw [if_pos h0] at g2; cases g2
            · rw [if_neg h0] at g2; cases g2; exact fun _ => rfl
          rw [e5]
          refine ⟨hr.1, hr.2.1, fun i hi => ?_⟩
          show upd z.2.2 j (shn z.1 v) i = upd (y.2.1 5) (40 * k + j) (shn z.1 v) (40 * k + i)
          unfold upd
          by_cases hij : i = j
          · rw [if_pos hij, if_pos (by omega)]
          · rw [if_neg hij, if_neg (by omega), e6]; exact hr.2.2 i hi
theorem itr_cpS (g : Nat → Int32) (a b : Nat) : ∀ n j, itr (cpS g a b) g n j = if b ≤ j ∧ j < b + n then g (a + (j - b)) else g j := by
  intro n
  induction n with
  | zero => intro j; rw [if_neg (by omega)]; rfl
  | succ n ih =>
    intro j
    rw [itr_s]
    show upd (itr (cpS g a b) g n) (b + n) (g (a + n)) j = _
    unfold upd
    by_cases hj : j = b + n
    · rw [if_pos hj, if_pos (by omega), hj, Nat.add_sub_cancel_left]
    · rw [if_neg hj, ih]
      by_cases h2 : b ≤ j ∧ j < b + n
      · rw [if_pos h2, if_pos (by omega)]
      · rw [if_neg h2, if_neg (by omega)]
theorem shM_e {y : mst} {k : Nat} {z : Nat × Nat × (Nat → Int32)} (g2 : shMq y k = some z) : ¬ y.2.1 3 k = 0 ∧ z = (tOf (y.2.1 3 k), (y.2.1 4 k).toNatClampNeg, fun i => y.2.1 5 (40 * k + i)) := by
  unfold shMq at g2
  by_cases h0 : y.2.1 3 k = 0
  · rw [if_pos h0] at g2; cases g2
  · rw [if_neg h0] at g2; cases g2; exact ⟨h0, rfl⟩
theorem Sim_copy {n : Nat} {x : cst} {y : mst} (h : Sim n x y) (s fr t to m : Int32) : Sim (n + 1) (aCP x (a_copy (shC x) s fr t to m)) (aMP y (a_copy (shMq y) s fr t to m)) := by
  have h12 := h.2.2.2.2.2.2.2
  rw [copy_c h12]
  refine Sim.mono ?_ (Nat.le_succ n)
  cases ha : a_copy (shC x) s fr t to m with
  | inl k => exact Sim_fnd h k
  | inr q =>
    by_cases h1 : inI s 0 3 = 0
    · rw [cp_0a h1] at ha; cases ha
    · by_cases h2 : inI t 0 3 = 0
      · rw [cp_0b h2] at ha; cases ha
      · obtain ⟨k, hk, rfl⟩ := inI_to (b := 3) rfl (by decide) h1
        obtain ⟨k2, hk2, rfl⟩ := inI_to (b := 3) rfl (by decide) h2
        have hk : k < 4 := by omega
        have hk2 : k2 < 4 := by omega
        cases e1 : shC x k with
        | none => rw [cp_5 hk hk2 (Or.inl e1)] at ha; cases ha
        | some z1 =>
          cases e2 : shC x k2 with
          | none => rw [cp_5 hk hk2 (Or.inr e2)] at ha; cases ha
          | some z2 =>
            rw [cp_s hk hk2 e1 e2] at ha
            obtain ⟨a1, x1⟩ := shC_ex e1
            obtain ⟨a2, x2⟩ := shC_ex e2
            obtain ⟨t1, m1, s1⟩ := h.2.2.2.2.2.1 k hk _ _ _ _ x1
            obtain ⟨t2, m2, s2⟩ := h.2.2.2.2.2.1 k2 hk2 _ _ _ _ x2
            have r1 := h12 k hk
            have r2 := h12 k2 hk2
            rw [e1] at r1
            rw [e2] at r2
            cases y1 : shMq y k with
            | none => rw [y1] at r1; exact absurd r1 (fun z => z)
            | some w1 =>
              cases y2 : shMq y k2 with
              | none => rw [y2] at r2; exact absurd r2 (fun z => z)
              | some w2 =>
                rw [y1] at r1
                rw [y2] at r2
                obtain ⟨n1, q1⟩ := shM_e y1
                obtain ⟨n2, q2⟩ := shM_e y2
                by_cases c0 : z1.1 = z2.1
                · rw [if_pos c0] at ha
                  by_cases c1 : m < 0
                  · rw [if_pos c1] at ha; cases ha
                  by_cases c2 : fr < 0
                  · rw [if_neg c1, if_pos c2] at ha; cases ha
                  by_cases c3 : to < 0
                  · rw [if_neg c1, if_neg c2, if_pos c3] at ha; cases ha
                  by_cases c4 : nI z1.2.1 - m < fr
                  · rw [if_neg c1, if_neg c2, if_neg c3, if_pos c4] at ha; cases ha
                  by_cases c5 : nI z2.2.1 - m < to
                  · rw [if_neg c1, if_neg c2, if_neg c3, if_neg c4, if_pos c5] at ha; cases ha
                  rw [if_neg c1, if_neg c2, if_neg c3, if_neg c4, if_neg c5] at ha
                  cases ha
                  obtain ⟨ν, σ, δ, b1, b2, rfl, rfl, rfl, b3⟩ := cp_nat m1 m2 c1 c2 c3 c4 c5
                  have ek : (nI k).toNatClampNeg = k := nI_clamp (by omega)
                  have ek2 : (nI k2).toNatClampNeg = k2 := nI_clamp (by omega)
                  have eν : (nI ν).toNatClampNeg = ν := nI_clamp (by omega)
                  have eσ : (nI σ).toNatClampNeg = σ := nI_clamp (by omega)
                  have eδ : (nI δ).toNatClampNeg = δ := nI_clamp (by omega)
                  show Sim n (xsh x (nI k2).toNatClampNeg ((x.2.2.2 (nI k2).toNatClampNeg).map (fun z => (z.1, z.2.1, z.2.2.1, va_cpy ((x.2.2.2 (nI k).toNatClampNeg).elim (fun _ => 0) (·.2.2.2)) z.2.2.2 (nI σ).toNatClampNeg (nI δ).toNatClampNeg (nI ν).toNatClampNeg)))) (yrow y 5 (itr (cpS (y.2.1 5) (40 * (nI k).toNatClampNeg + (nI σ).toNatClampNeg) (40 * (nI k2).toNatClampNeg + (nI δ).toNatClampNeg)) (y.2.1 5) (nI ν).toNatClampNeg))
                  rw [ek, ek2, eν, eσ, eδ, x1, x2]
                  have hmk := h.2.2.2.2.2.2.1 k2 hk2
                  refine Sim_sh h _ rfl (fun r hr => yrow_ne (by omega)) (fun s hs hne => ⟨by rw [yrow_ne (by decide)], by rw [yrow_ne (by decide)], fun i hi => ?_⟩) (fun a' t' m' g' e => ?_) ⟨by rw [yrow_ne (by decide)]; exact hmk.1, by rw [yrow_ne (by decide)]; exact hmk.2⟩ ?_
                  · rw [yrow_at, itr_cpS, if_neg (by omega)]
                  · cases e
                    refine ⟨t2, m2, fun i hi => ?_⟩
                    show shn z2.1 (va_cpy z1.2.2 z2.2.2 σ δ ν i) = va_cpy z1.2.2 z2.2.2 σ δ ν i
                    unfold va_cpy
                    by_cases hd : δ ≤ i ∧ i < δ + ν
                    · rw [if_pos hd, ← c0]; exact s1 _ (by omega)
                    · rw [if_neg hd]; exact s2 i hi
                  · have e5 : shMq (yrow y 5 (itr (cpS (y.2.1 5) (40 * k + σ) (40 * k2 + δ)) (y.2.1 5) ν)) k2 = some (w2.1, w2.2.1, fun i => itr (cpS (y.2.1 5) (40 * k + σ) (40 * k2 + δ)) (y.2.1 5) ν (40 * k2 + i)) := by
                      unfold shMq
                      rw [yrow_ne (by decide), yrow_ne (by decide), yrow_at, if_neg n2, q2]
                    rw [e5]
                    refine ⟨r2.1, r2.2.1, fun i hi => ?_⟩
                    have hi : i < z2.2.1 := hi
                    show va_cpy z1.2.2 z2.2.2 σ δ ν i = itr (cpS (y.2.1 5) (40 * k + σ) (40 * k2 + δ)) (y.2.1 5) ν (40 * k2 + i)
                    rw [itr_cpS]
                    unfold va_cpy
                    by_cases hd : δ ≤ i ∧ i < δ + ν
                    · rw [if_pos hd, if_pos (by omega), r1.2.2 _ (show σ + (i - δ) < z1.2.1 by omega), q1]
                      show y.2.1 5 (40 * k + (σ + (i - δ))) = _
                      rw [show 40 * k + σ + (40 * k2 + i - (40 * k2 + δ)) = 40 * k + (σ + (i - δ)) by omega]
                    · rw [if_neg hd, if_neg (by omega), r2.2.2 i hi, q2]
                · rw [if_neg c0] at ha; cases ha
theorem itr_cl (s : Nat) (g : Nat → Int32) : ∀ n j, itr (clS s) g n j = if 40 * s ≤ j ∧ j < 40 * s + n then 0 else g j := by
  intro n
  induction n with
  | zero => intro j; rw [if_neg (by omega)]; rfl
  | succ n ih =>
    intro j
    rw [itr_s]
    show upd (itr (clS s) g n) (40 * s + n) 0 j = _
    unfold upd
    by_cases hj : j = 40 * s + n
    · rw [if_pos hj, if_pos (by omega)]
    · rw [if_neg hj, ih]
      by_cases h2 : 40 * s ≤ j ∧ j < 40 * s + n
      · rw [if_pos h2, if_pos (by omega)]
      · rw [if_neg h2, if_neg (by omega)]
theorem shn_0 (t : Nat) : shn t 0 = 0 := by
  match t with
  | 0 => rfl
  | 1 => rfl
  | _ + 2 => rfl
theorem Sim_sheet {n : Nat} {x x' : cst} {y : mst} (h : Sim n x y) (s b m : Int32) (hx : shP x s (a_sheet s b m) x') : Sim (n + 1) x' (aMS y s b m (a_sheet s b m)) := by
  refine Sim.mono ?_ (Nat.le_succ n)
  have rows : ∀ k c, (shY y k b c).1 = y.1 ∧ (∀ r, r < 3 → (shY y k b c).2.1 r = y.2.1 r) ∧ (∀ s, s < 4 → s ≠ k → (shY y k b c).2.1 3 s = y.2.1 3 s ∧ (shY y k b c).2.1 4 s = y.2.1 4 s ∧ ∀ i, i < 40 → (shY y k b c).2.1 5 (40 * s + i) = y.2.1 5 (40 * s + i)) ∧ (shY y k b c).2.1 3 k = b ∧ (shY y k b c).2.1 4 k = c ∧ (shY y k b c).2.1 5 = itr (clS k) (y.2.1 5) 40 := by
    intro k c
    unfold shY
    refine ⟨rfl, fun r hr => by rw [yrow_ne (by omega), yr_ne (by omega), yr_ne (by omega)], fun s hs hne => ⟨?_, ?_, fun i hi => ?_⟩, ?_, ?_, yrow_at _ _ _⟩
    · rw [yrow_ne (by decide), yr_ne (by decide), yr_at]; unfold upd; rw [if_neg hne]
    · rw [yrow_ne (by decide), yr_at]; unfold upd; rw [if_neg hne, yr_ne (by decide)]
    · rw [yrow_at, itr_cl, if_neg (by omega)]
    · rw [yrow_ne (by decide), yr_ne (by decide), yr_at]; unfold upd; rw [if_pos rfl]
    · rw [yrow_ne (by decide), yr_at]; unfold upd; rw [if_pos rfl]
  cases ha : a_sheet s b m with
  | inl k => rw [ha] at hx; rw [show x' = fnd x k from hx]; exact Sim_fnd h k
  | inr q =>
    rw [ha] at hx
    obtain ⟨a, rfl⟩ := hx
    unfold a_sheet at ha
    by_cases c1 : inI s 0 3 = 0
    · rw [if_pos c1] at ha; cases ha
    rw [if_neg c1] at ha
    obtain ⟨k, hk, rfl⟩ := inI_to (b := 3) rfl (by decide) c1
    by_cases c2 : b = 0 ∨ b = 8 ∨ b = 16 ∨ b = 32
    · rw [if_pos c2] at ha
      by_cases c3 : m < 0
      · rw [if_pos c3] at ha; cases ha
      by_cases c4 : 40 < m
      · rw [if_neg c3, if_pos c4] at ha; cases ha
      rw [if_neg c3, if_neg c4] at ha
      obtain ⟨j, hj, rfl⟩ := inI_to (v := m) (B := 40) (b := 40) rfl (by decide) (by unfold inI; rw [if_neg c3, if_neg c4]; decide)
      have ek : (nI k).toNatClampNeg = k := nI_clamp (by omega)
      have ej : (nI j).toNatClampNeg = j := nI_clamp (by omega)
      show Sim n (xsh x (nI k).toNatClampNeg (q.2.map (fun z => (a, z.1, z.2.1, z.2.2)))) (shY y (nI k).toNatClampNeg b q.1)
      rw [ek]
      obtain ⟨p1, p2, p3, p4, p5, p6⟩ := rows k q.1
      by_cases c5 : b = 0
      · rw [if_pos c5] at ha
        cases ha
        refine Sim_sh h _ p1 p2 p3 (fun a' t' m' g' e => by cases e) ⟨by rw [p4]; exact c2, by rw [p5]; exact ⟨0, by decide, rfl⟩⟩ ?_
        rw [show shMq (shY y k b (0, (none : shv)).1) k = none from if_pos (by rw [p4]; exact c5)]
        exact trivial
      · rw [if_neg c5] at ha
        cases ha
        refine Sim_sh h _ p1 p2 p3 (fun a' t' m' g' e => ?_) ⟨by rw [p4]; exact c2, by rw [p5]; exact ⟨j, by omega, rfl⟩⟩ ?_
        · cases e
          refine ⟨?_, by rw [ej]; exact hj, fun i _ => shn_0 _⟩
          split
          · show (0 : Nat) < 3; decide
          · split
            · show (1 : Nat) < 3; decide
            · show (2 : Nat) < 3; decide
        · have e5 : shMq (shY y k b (nI j)) k = some (tOf b, (nI j).toNatClampNeg, fun i => itr (clS k) (y.2.1 5) 40 (40 * k + i)) := by
            unfold shMq
            rw [p4, p5, p6, if_neg c5]
          show shR _ (shMq (shY y k b (nI j)) k)
          rw [e5]
          refine ⟨rfl, rfl, fun i hi => ?_⟩
          have hi : i < (nI j).toNatClampNeg := hi
          rw [ej] at hi
          show (0 : Int32) = itr (clS k) (y.2.1 5) 40 (40 * k + i)
          rw [itr_cl, if_pos (by omega)]
    · rw [if_neg c2] at ha; cases ha
/-! the tape, images -/
theorem by_byt (b : Int32) (k : Nat) : isBy (byt b k) := by
  unfold isBy byt
  rw [Int8.toInt8_toInt32]
theorem tp_fdT {b : Int32} {t n : Nat} {tp : Nat → Int32} (h : tpOk tp) : ∀ i, tpOk (fdT b t n i tp) := by
  intro i
  induction i with
  | zero => exact h
  | succ i ih =>
    intro k hk
    show isBy (upd (fdT b t n i tp) (t + i) (byt b (n - 1 - i)) k)
    unfold upd
    by_cases e : k = t + i
    · rw [if_pos e]; exact by_byt _ _
    · rw [if_neg e]; exact ih k hk
theorem Sim_feed {n : Nat} {x : cst} {y : mst} (h : Sim n x y) (b m : Int32) {t : Nat} (ht : t ≤ 120) (e1 : x.2.1 0 0 = nI t) (e2 : y.2.1 0 1 = nI t) : Sim (n + 1) (aCF x b t m (a_feed t m)) (aMF y b t m (a_feed t m)) := by
  refine Sim.mono ?_ (Nat.le_succ n)
  cases ha : a_feed t m with
  | inl k => exact Sim_fnd h k
  | inr c =>
    unfold a_feed at ha
    by_cases c1 : inI m 1 4 = 0
    · rw [if_pos c1] at ha; cases ha
    rw [if_neg c1] at ha
    by_cases c2 : 120 < t + m.toNatClampNeg
    · rw [if_pos c2] at ha; cases ha
    show Sim n (fdX x b t m.toNatClampNeg m.toNatClampNeg) (fdY y b t m.toNatClampNeg m.toNatClampNeg)
    generalize m.toNatClampNeg = j at c2
    have h7 := h.2.2.2.1.1
    refine Sim_mk h (Nat.le_refl _) h.1 ⟨?_, ?_, rfl, rfl⟩ ⟨t + j, by omega, fdX_t _ _ _ _ _, fdY_t _ _ _ _ _⟩ ⟨?_, ?_⟩ ?_ ⟨rfl, ?_, ?_, ?_⟩
    · show u2 (ur x.2.1 2 (fdT b t j j (x.2.1 2))) 0 0 (nI (t + j)) 0 1 = _; rw [u2_at, if_neg (by decide), ur_ne (by decide)]
    · show u2 (ur y.2.1 2 (fdT b t j j (y.2.1 2))) 0 1 (nI (t + j)) 0 0 = _; rw [u2_at, if_neg (by decide), ur_ne (by decide)]
    · show u2 (ur x.2.1 2 (fdT b t j j (x.2.1 2))) 0 0 (nI (t + j)) 2 = u2 (ur y.2.1 2 (fdT b t j j (y.2.1 2))) 0 1 (nI (t + j)) 2; rw [u2_ne (by decide), u2_ne (by decide), ur_at, ur_at, h7]
    · show tpOk (u2 (ur x.2.1 2 (fdT b t j j (x.2.1 2))) 0 0 (nI (t + j)) 2); rw [u2_ne (by decide), ur_at]; exact tp_fdT h.2.2.2.1.2 _
    · show u2 (ur x.2.1 2 (fdT b t j j (x.2.1 2))) 0 0 (nI (t + j)) 3 = u2 (ur y.2.1 2 (fdT b t j j (y.2.1 2))) 0 1 (nI (t + j)) 1; rw [u2_ne (by decide), u2_ne (by decide), ur_ne (by decide), ur_ne (by decide)]; exact h.2.2.2.2.1
    · show u2 (ur y.2.1 2 (fdT b t j j (y.2.1 2))) 0 1 (nI (t + j)) 3 = _; rw [u2_ne (by decide), ur_ne (by decide)]
    · show u2 (ur y.2.1 2 (fdT b t j j (y.2.1 2))) 0 1 (nI (t + j)) 4 = _; rw [u2_ne (by decide), ur_ne (by decide)]
    · show u2 (ur y.2.1 2 (fdT b t j j (y.2.1 2))) 0 1 (nI (t + j)) 5 = _; rw [u2_ne (by decide), ur_ne (by decide)]
theorem Sim_wipe0 {n : Nat} {x : cst} {y : mst} (h : Sim n x y) : Sim n (xr x 0 0 0) (yr y 0 1 0) := by
  refine Sim_mk h (Nat.le_refl _) h.1 ⟨?_, ?_, rfl, rfl⟩ ⟨0, by decide, ?_, ?_⟩ ⟨?_, ?_⟩ ?_ ⟨rfl, ?_, ?_, ?_⟩
  · show u2 x.2.1 0 0 0 0 1 = _; rw [u2_at, if_neg (by decide)]
  · show u2 y.2.1 0 1 0 0 0 = _; rw [u2_at, if_neg (by decide)]
  · show u2 x.2.1 0 0 0 0 0 = _; rw [u2_at, if_pos ⟨rfl, rfl⟩]; rfl
  · show u2 y.2.1 0 1 0 0 1 = _; rw [u2_at, if_pos ⟨rfl, rfl⟩]; rfl
  · show u2 x.2.1 0 0 0 2 = u2 y.2.1 0 1 0 2; rw [u2_ne (by decide), u2_ne (by decide)]; exact h.2.2.2.1.1
  · show tpOk (u2 x.2.1 0 0 0 2); rw [u2_ne (by decide)]; exact h.2.2.2.1.2
  · show u2 x.2.1 0 0 0 3 = u2 y.2.1 0 1 0 1; rw [u2_ne (by decide), u2_ne (by decide)]; exact h.2.2.2.2.1
  · show u2 y.2.1 0 1 0 3 = _; rw [u2_ne (by decide)]
  · show u2 y.2.1 0 1 0 4 = _; rw [u2_ne (by decide)]
  · show u2 y.2.1 0 1 0 5 = _; rw [u2_ne (by decide)]
theorem Sim_wipe {n : Nat} {x : cst} {y : mst} (h : Sim n x y) : Sim (n + 1) (xr x 0 0 0) (yr y 0 1 0) := (Sim_wipe0 h).mono (Nat.le_succ n)
/-- the flag of what is kept, and what is kept -/
theorem Sim_kept {n : Nat} {x x' : cst} {y y' : mst} (h : Sim n x y) (v : Int32) (hx : x'.2 = (xr x 0 1 v).2) (hy : y'.2 = (yr y 0 0 v).2) (h0 : x'.1 0 = x.1 0) (h0' : y'.1 0 = y.1 0) (hk : ¬ v = 0 → x'.1 1 = y'.1 3 ∧ WS n (x'.1 1)) : Sim n x' y' := by
  obtain ⟨⟨h1, h2⟩, -, ⟨t, ht, h5, h6⟩, ⟨h7, h8⟩, h9, h10, h11, h12⟩ := h
  have e01 : x'.2.1 0 1 = v := by rw [hx]; show u2 x.2.1 0 1 v 0 1 = v; rw [u2_at, if_pos ⟨rfl, rfl⟩]
  have e00 : x'.2.1 0 0 = x.2.1 0 0 := by rw [hx]; show u2 x.2.1 0 1 v 0 0 = _; rw [u2_at, if_neg (by decide)]
  have m00 : y'.2.1 0 0 = v := by rw [hy]; show u2 y.2.1 0 0 v 0 0 = v; rw [u2_at, if_pos ⟨rfl, rfl⟩]
  have m01 : y'.2.1 0 1 = y.2.1 0 1 := by rw [hy]; show u2 y.2.1 0 0 v 0 1 = _; rw [u2_at, if_neg (by decide)]
  have er : ∀ r, r ≠ 0 → x'.2.1 r = x.2.1 r := fun r hr => by rw [hx]; exact u2_ne hr
  have mr : ∀ r, r ≠ 0 → y'.2.1 r = y.2.1 r := fun r hr => by rw [hy]; exact u2_ne hr
  have es : x'.2.2.2 = x.2.2.2 := by rw [hx]; rfl
  refine ⟨⟨by rw [h0, h0']; exact h1, by rw [h0]; exact h2⟩, ⟨by rw [e01, m00], fun q => hk (by rw [e01] at q; exact q)⟩, ⟨t, ht, by rw [e00]; exact h5, by rw [m01]; exact h6⟩, ⟨by rw [er 2 (by decide), mr 2 (by decide)]; exact h7, by rw [er 2 (by decide)]; exact h8⟩, by rw [er 3 (by decide), mr 1 (by decide)]; exact h9, ?_, ?_, fun s hs => ?_⟩
  · unfold shOk2; rw [es]; exact h10
  · unfold shMk; rw [mr 3 (by decide), mr 4 (by decide)]; exact h11
  · have := h12 s hs
    unfold shC shMq at this ⊢
    rw [es, mr 3 (by decide), mr 4 (by decide), mr 5 (by decide)]; exact this
theorem Sim_image {n : Nat} {x : cst} {y : mst} (h : Sim n x y) : Sim (n + 1) (xr (xs x 1 (x.1 0)) 0 1 1) (yr (ys y 3 (y.1 0)) 0 0 1) := by
  refine Sim.mono (Sim_kept h 1 rfl rfl (show (xs x 1 (x.1 0)).1 0 = x.1 0 from xs_ne (by decide)) (show (ys y 3 (y.1 0)).1 0 = y.1 0 from ys_ne (by decide)) fun _ => ⟨?_, ?_⟩) (Nat.le_succ n)
  · show (xs x 1 (x.1 0)).1 1 = (ys y 3 (y.1 0)).1 3
    rw [xs_at, ys_at]; exact h.1.1
  · show WS n ((xs x 1 (x.1 0)).1 1)
    rw [xs_at]; exact h.1.2
theorem Sim_tear {n : Nat} {x : cst} {y : mst} (h : Sim n x y) : Sim (n + 1) (xr x 0 1 0) (yr y 0 0 0) := Sim.mono (Sim_kept h 0 rfl rfl rfl rfl fun z => absurd rfl z) (Nat.le_succ n)
theorem Sim_undo {n : Nat} {x : cst} {y : mst} (h : Sim n x y) : Sim (n + 1) (if x.2.1 0 1 = 0 then fnd x 3 else xs x 0 (x.1 1)) (if y.2.1 0 0 = 0 then fndM y 3 else ys y 0 (u2 (y.1 3) 1 1 (y.1 0 1 1))) ∧ (if x.2.1 0 1 = 0 then -1000001 - nI 3 else x.1 1 1 2) = (if y.2.1 0 0 = 0 then -1000001 - nI 3 else y.1 3 1 2) := by
  obtain ⟨h3, h4⟩ := h.2.1
  rw [← h3]
  by_cases c : x.2.1 0 1 = 0
  · rw [if_pos c, if_pos c, if_pos c, if_pos c]
    exact ⟨(Sim_fnd h 3).mono (Nat.le_succ n), rfl⟩
  · rw [if_neg c, if_neg c, if_neg c, if_neg c]
    obtain ⟨k1, k2⟩ := h4 c
    have e : u2 (y.1 3) 1 1 (y.1 0 1 1) = x.1 1 := by
      funext r c
      rw [u2_at, ← k1, ← h.1.1, h.1.2.2.1]
      by_cases hc : r = 1 ∧ c = 1
      · rw [if_pos hc, hc.1, hc.2]; exact k2.2.1.symm
      · rw [if_neg hc]
    rw [e]
    exact ⟨Sim_w h (Nat.le_succ n) (k2.mono (Nat.le_succ n)), by rw [k1]⟩
theorem Sim_text {n : Nat} {x : cst} {y : mst} (h : Sim n x y) {t : Nat} (ht : t ≤ 120) (a b k v a' b' k' v' : Nat) (f : Option Nat) : Sim (n + 1) (txC x (txtP (x.2.1 2) t (x.1 0, a, b, k, v))) (tyC y (isM (y.2.1 2) t (y.1 0, a', b', k', v', f))) ∧ txR (txtP (x.2.1 2) t (x.1 0, a, b, k, v)) = tyR (isM (y.2.1 2) t (y.1 0, a', b', k', v', f)) := by
  have st := sim_txt h.2.2.2.1.2 ht h.1.2.1 a b k v a' b' k' v' f
  have o1 := okM_is (a := a') (b := b') (k := k') (v := v') (f := f) h.2.2.2.1.2 ht h.1.2.1
  have o2 := dy_is (a := a') (b := b') (k := k') (v := v') (f := f) h.2.2.2.1.2 ht h.1.2.1
  rw [← h.1.1, ← h.2.2.2.1.1]
  generalize isM (x.2.1 2) t (x.1 0, a', b', k', v', f) = Q at st o1 o2
  cases hp : txtP (x.2.1 2) t (x.1 0, a, b, k, v) with
  | inl e =>
    rw [hp] at st
    have st : Q.2.2.2.2.2.2 = some e := st
    unfold tyC tyR
    rw [if_neg (by rw [st]; exact fun z => by cases z), if_neg (by rw [st]; exact fun z => by cases z), st]
    exact ⟨Sim_wipe h, rfl⟩
  | inr q =>
    rw [hp] at st
    obtain ⟨s1, s2, s3⟩ : Q.2.2.2.2.2.2 = none ∧ Q.1 = q.1 ∧ Q.2.1 = q.2.1 := st
    unfold tyC tyR
    rw [if_pos s1, if_pos s1, s2, s3]
    rw [s3] at o1 o2
    exact ⟨Sim_w (Sim_wipe0 h) (Nat.le_succ n) ((h.1.2.of (by rw [← s3]; exact o1.1.1) o1.2 o2).mono (Nat.le_succ n)), rfl⟩
theorem Sim_0 : Sim 0 xst0 yst0 := by
  have hw : WS 0 w0 := by
    refine ⟨⟨⟨0, by decide, rfl⟩, fun k hk => ?_, fun i hi => ⟨i, i, 5, hi, by omega, by decide, rfl⟩, ⟨0, by decide, rfl⟩, fun k hk => Or.inl rfl⟩, rfl, ⟨0, by decide, rfl⟩⟩
    exact ⟨⟨0, by decide, rfl⟩, ⟨0, by decide, rfl⟩, ⟨0, by decide, rfl⟩, ⟨0, by decide, rfl⟩, ⟨0, by decide, rfl⟩, ⟨0, by decide, rfl⟩, ⟨0, by decide, rfl⟩⟩
  refine ⟨⟨rfl, hw⟩, ⟨rfl, fun z => absurd rfl z⟩, ⟨0, by decide, rfl, rfl⟩, ⟨rfl, fun k hk => rfl⟩, rfl, fun s hs a t n g h => (by cases h), fun s hs => ⟨Or.inl rfl, ⟨0, by decide, rfl⟩⟩, fun s hs => ?_⟩
  show shR none (shMq yst0 s)
  rw [show shMq yst0 s = none from if_pos rfl]
  exact trivial
