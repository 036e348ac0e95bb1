/-! both sides run alike: the relation, and what each act does to it -/
section DAY
variable {tp : Nat → Int32} {n : Nat}
theorem dy_pe2 {g r : Nat} {q : Nat × ms} : (peM2 g r q).1 1 2 = q.2.1 1 2 := by
  obtain ⟨z, w, a, b, k, v, f⟩ := q
  by_cases c : f = none
  · rw [show peM2 g r (z, w, a, b, k, v, f) = (u2 w (2 + r) g (nI z), a, b, k, v, f) from if_pos c]
    show u2 w (2 + r) g (nI z) 1 2 = w 1 2
    rw [u2_ne (by omega)]
  · rw [show peM2 g r (z, w, a, b, k, v, f) = (w, a, b, k, v, f) from if_neg c]
theorem dy_pe {W g r h : Nat} {s : ms} (ht : tpOk tp) (hn : n ≤ 120) (hs : msOk n s) : (peM tp n W g r h s).1 1 2 = s.1 1 2 := by
  obtain ⟨w, a, b, k, v, f⟩ := s
  by_cases c : f = none ∧ k = 1 ∧ v = W
  · rw [peM_y c.1 c.2]
    obtain ⟨g1, e1, -, -⟩ := okM_next ht hn hs.w
    obtain ⟨g2, e2, g3⟩ := okM_nu (h := h) ht hn g1.1
    rw [dy_pe2, e2, e1]
  · rw [peM_n c]
theorem dy_gl2 {kd : Nat} {s : ms} (ht : tpOk tp) (hn : n ≤ 120) (hs : msOk n s) (hk : kd < 7) (h8 : wN s.1 < 8) : (gl2 tp n kd s).1 1 2 = s.1 1 2 := by
  obtain ⟨w, a, b, k, v, f⟩ := s
  have g1 := okM_add hs hk h8
  have g2 := okM_pe (W := 257) (g := wN w) ht hn g1.1 pOk1
  have g3 := okM_pe (W := 307058) (g := wN w) ht hn g2.1 pOk2
  have g4 := okM_pe (W := 6132988) (g := wN w) ht hn g3.1 pOk3
  refine (dy_pe ht hn g4.1).trans ((dy_pe ht hn g3.1).trans ((dy_pe ht hn g2.1).trans ((dy_pe ht hn g1.1).trans ?_)))
  show addw w (nI kd) 0 1 2 = w 1 2
  unfold addw
  rw [u2_at, if_neg (by decide), u2_ne (by decide), u2_ne (by decide), u2_ne (by decide), clr_1 _ _ _ _ (by decide)]
theorem dy_gl {kd : Nat} {s : ms} (ht : tpOk tp) (hn : n ≤ 120) (hs : msOk n s) (hk : kd < 7) : (glM tp n kd s).1 1 2 = s.1 1 2 := by
  obtain ⟨w, a, b, k, v, f⟩ := s
  by_cases c : wN w = 8
  · rw [show glM tp n kd (w, a, b, k, v, f) = wrM (w, a, b, k, v, f) from if_pos c, (okM_wr hs).2]
  · rw [show glM tp n kd (w, a, b, k, v, f) = gl2 tp n kd (nextM tp n (w, a, b, k, v, f)) from if_neg c]
    obtain ⟨g1, g2, -, -⟩ := okM_next ht hn hs.w
    refine (dy_gl2 ht hn g1.1 hk ?_).trans (by rw [g2])
    rw [g2]
    have : wN w ≤ 8 := (wOk.n hs.1).2
    show wN w < 8
    omega
theorem dy_sa2 {z1 z2 z3 : Nat} {q : Nat × ms} : (sa2 z1 z2 z3 q).1 1 2 = q.2.1 1 2 := by
  obtain ⟨z, w, a, b, k, v, f⟩ := q
  by_cases c : f = none
  · rw [show sa2 z1 z2 z3 (z, w, a, b, k, v, f) = (u2 w 0 z1 (syI (nI z2) (nI z3) (nI z)), a, b, k, v, f) from if_pos c]
    show u2 w 0 z1 (syI (nI z2) (nI z3) (nI z)) 1 2 = w 1 2
    rw [u2_ne (by decide)]
  · rw [show sa2 z1 z2 z3 (z, w, a, b, k, v, f) = (w, a, b, k, v, f) from if_neg c]
theorem dy_sa {s : ms} (ht : tpOk tp) (hn : n ≤ 120) (hs : msOk n s) : (saM tp n s).1 1 2 = s.1 1 2 := by
  obtain ⟨g1, x1, -, -⟩ := okM_next ht hn hs.w
  obtain ⟨g2, x2, e2⟩ := okM_nu (h := 6) ht hn g1.1
  obtain ⟨g3, x3, e3⟩ := okM_nuG (h := 6) ht hn g2.1
  obtain ⟨g4, x4, e4⟩ := okM_nuG (h := 16) ht hn g3.1
  obtain ⟨g5, x5, e5⟩ := okM_nuG (h := 10) ht hn g4.1
  show (sa2 _ _ _ (nuG tp n 10 (nuG tp n 16 (nuG tp n 6 (nuM tp n 6 (nextM tp n s)).2).2).2)).1 1 2 = _
  rw [dy_sa2, x5, x4, x3, x2, x1]
theorem dy_hz {s : ms} (ht : tpOk tp) (hn : n ≤ 120) (hs : msOk n s) : (hzM tp n s).1 1 2 = s.1 1 2 := by
  obtain ⟨w, a, b, k, v, f⟩ := s
  obtain ⟨g2, x2, e2⟩ := okM_nu (h := wN w) ht hn hs
  obtain ⟨g3, x3, e3⟩ := okM_nuG (h := 65536) ht hn g2.1
  show (peM2 _ 5 (nuG tp n 65536 (nuM tp n (wN w) (w, a, b, k, v, f)).2)).1 1 2 = _
  rw [dy_pe2, x3, x2]
theorem dy_it {s : ms} (ht : tpOk tp) (hn : n ≤ 120) (hs : msOk n s) : (itM tp n s).1 1 2 = s.1 1 2 := by
  obtain ⟨w, a, b, k, v, f⟩ := s
  by_cases c : kdN k v = 7
  · by_cases c2 : k = 1 ∧ v = 374953
    · rw [itM_s c c2]; exact dy_sa ht hn hs
    · by_cases c3 : k = 1 ∧ v = 158575
      · rw [itM_h c c2 c3]
        obtain ⟨g1, x1, -, -⟩ := okM_next ht hn hs.w
        refine (dy_hz ht hn g1.1).trans ?_
        rw [x1]
      · rw [itM_x c c2 c3, (okM_wr hs).2]
  · have h7 : kdN k v < 7 := by have := (kd_7 k v).1; omega
    rw [itM_g h7]
    exact dy_gl ht hn hs h7
theorem dy_en {s : ms} (hs : msOk n s) : (enM s).1 1 2 = s.1 1 2 := by
  obtain ⟨w, a, b, k, v, f⟩ := s
  by_cases c : f = none ∧ ¬ k = 0
  · rw [en_y c.1 c.2, (okM_wr hs).2]
  · rw [en_n c]
theorem dy_lp (ht : tpOk tp) (hn : n ≤ 120) : ∀ (g c : Nat) (s : ms), msOk n s → (lpM tp n g c s).2.1 1 2 = s.1 1 2 := by
  intro g
  induction g with
  | zero => intro c s hs; rfl
  | succ g ih =>
    intro c s hs
    obtain ⟨w, a, b, k, v, f⟩ := s
    by_cases h : f = none ∧ k = 3
    · rw [lp_y h.1 h.2]
      obtain ⟨g1, x1, -, -⟩ := okM_next ht hn hs.w
      have g2 := (okM_it ht hn g1.1).1
      refine (ih _ _ g2.1).trans ((dy_it ht hn g1.1).trans ?_)
      rw [x1]
    · rw [lp_x h (fun _ => Nat.succ_pos _)]; exact dy_en hs
theorem dy_is {a b k v : Nat} {w : wd} {f : Option Nat} (ht : tpOk tp) (hn : n ≤ 120) (hs : wOk w) : (isM tp n (w, a, b, k, v, f)).2.1 1 2 = w 1 2 := by
  have hz : msW n (w, 0, b, k, v, none) := ⟨hs, Nat.zero_le _, fun b h => by cases h⟩
  obtain ⟨g1, x1, -, -⟩ := okM_next ht hn hz
  have g2 := (okM_it ht hn g1.1).1
  refine (dy_lp ht hn 200 1 _ g2.1).trans ((dy_it ht hn g1.1).trans ?_)
  rw [x1]
end DAY
/-! worlds that stay good -/
def WS (n : Nat) (f : wd) : Prop := wOk f ∧ f 1 1 = 0 ∧ isN (f 1 2) (60 * n + 1)
theorem WS.mono {n m : Nat} {f : wd} (h : WS n f) (hm : n ≤ m) : WS m f := ⟨h.1, h.2.1, by obtain ⟨j, hj, e⟩ := h.2.2; exact ⟨j, by omega, e⟩⟩
theorem WS.d {n : Nat} {f : wd} (h : WS n f) (hn : n ≤ 64) : isN (f 1 2) 10000 := by obtain ⟨j, hj, e⟩ := h.2.2; exact ⟨j, by omega, e⟩
theorem WS.of {n : Nat} {f g : wd} (h : WS n f) (h1 : wOk g) (h2 : g 1 1 = f 1 1) (h3 : g 1 2 = f 1 2) : WS n g := ⟨h1, h2.trans h.2.1, by rw [h3]; exact h.2.2⟩
theorem sOk_of {v : Int32} (h : ¬ isSayI v = 0) : sOk v := by
  rw [isSay_m] at h
  unfold isSayM at h
  by_cases h1 : inI v 0 5159 = 0
  · rw [if_pos h1] at h; exact absurd rfl h
  · rw [if_neg h1] at h
    obtain ⟨k, hk, rfl⟩ := inI_to (b := 5159) rfl (by decide) h1
    rw [show (1000 : Int32) = nI 1000 from rfl, pk_rem (by omega) (by decide) (by decide)] at h
    by_cases h2 : nI (k % 1000) < 160
    · have h2 : k % 1000 < 160 := (nI_ltI (by omega) (by decide)).mp h2
      exact ⟨k / 1000, k % 1000 / 10, k % 10, by omega, by omega, by omega, by rw [show 1000 * (k / 1000) + 10 * (k % 1000 / 10) + k % 10 = k by omega]⟩
    · rw [if_neg h2] at h; exact absurd rfl h
theorem WS_list {n : Nat} {f : wd} (h : WS n f) {i : Nat} {v : Int32} (hv : sOk v) : WS n (u2 f 0 i v) := h.of (wOk_l h.1 hv) (by rw [u2_ne (by decide)]) (by rw [u2_ne (by decide)])
theorem WS_say {n : Nat} {f : wd} (h : WS n f) (i v : Int32) : ∀ q, a_say f i v = .inr q → WS n q.2 := by
  intro q hq
  unfold a_say at hq
  split at hq
  · cases hq
  · split at hq
    · cases hq
    · rename_i h2; cases hq; exact WS_list h (sOk_of h2)
theorem WS_glove {n : Nat} {f : wd} (h : WS n f) (k r : Int32) : ∀ q, a_glove f k r = .inr q → WS n q.2 := by
  intro q hq
  unfold a_glove at hq
  split at hq
  · cases hq
  · split at hq
    · cases hq
    · split at hq
      · cases hq
      · rename_i h1 h2 h3
        cases hq
        obtain ⟨a, ha, rfl⟩ := inI_to (b := 6) rfl (by decide) h1
        obtain ⟨c, hc, rfl⟩ := inI_to (b := 5) rfl (by decide) h2
        obtain ⟨e, e8⟩ := wOk.n h.1
        have h8 : wN f < 8 := by
          rcases Nat.lt_or_ge (wN f) 8 with z | z
          · exact z
          · have : wN f = 8 := by omega
            rw [this] at e; exact absurd e h3
        show WS n (addw f (nI a) (nI c))
        refine h.of (wOk_add h.1 ⟨a, by omega, rfl⟩ ⟨c, by omega, rfl⟩ h8) ?_ ?_ <;>
        · unfold addw
          rw [u2_at, if_neg (by decide), u2_ne (by decide), u2_ne (by decide), u2_ne (by decide), clr_1 _ _ _ _ (by decide)]
theorem WS_row {n : Nat} {f : wd} (h : WS n f) {r k : Nat} {v : Int32} (hv : isN v (match r with | 2 => 7 | 3 => 6 | 4 => 10 | 5 => 65536 | 6 => 10000 | 7 => 65536 | 8 => 10000 | _ => 1000000000)) (hr : 2 ≤ r ∧ r < 9) : WS n (u2 f r k v) := h.of (wOk_u h.1 hv hr) (by rw [u2_ne (by omega)]) (by rw [u2_ne (by omega)])
theorem WS_change {n : Nat} {f : wd} (h : WS n f) (g w v : Int32) : ∀ q, a_change f g w v = .inr q → WS n q.2 := by
  intro q hq
  unfold a_change at hq
  split at hq
  · cases hq
  · split at hq
    · cases hq
    · rename_i h1 h2
      cases hq
      obtain ⟨r, hr, rfl⟩ := tld_to h2
      rw [nI_clamp (by omega)]
      have hv : ∀ b, b < 2 ^ 31 → ¬ inI v 0 (nI b) = 0 → isN v (b + 1) := fun b hb hz => by
        obtain ⟨c, hc, e⟩ := inI_to (b := b) rfl hb hz
        exact ⟨c, by omega, e⟩
      match r, hr, h2 with
      | 0, _, h2 => exact WS_row (r := 2) h (hv 6 (by decide) h2) (by decide)
      | 1, _, h2 => exact WS_row (r := 3) h (hv 5 (by decide) h2) (by decide)
      | 2, _, h2 => exact WS_row (r := 4) h (hv 9 (by decide) h2) (by decide)
      | 3, _, h2 => exact WS_row (r := 5) h (hv 65535 (by decide) h2) (by decide)
      | 4, _, h2 => exact WS_row (r := 6) h (hv 9999 (by decide) h2) (by decide)
      | 5, _, h2 => exact WS_row (r := 7) h (hv 65535 (by decide) h2) (by decide)
      | 6, _, h2 => exact WS_row (r := 8) h (hv 9999 (by decide) h2) (by decide)
theorem WS_draw {n : Nat} {f : wd} (h : WS n f) (g : Int32) : ∀ q, a_draw f g = .inr q → WS n q.2 := by
  intro q hq
  unfold a_draw at hq
  split at hq
  · cases hq
  · split at hq
    · cases hq
    · cases hq
      show WS n (isdw f g.toNatClampNeg)
      refine h.of ⟨by rw [isdw_r _ _ _ (by decide)]; exact h.1.1, fun j hj => gOk_isd (h.1.2.1 j hj), fun i hi => by rw [isdw_r _ _ _ (by decide)]; exact h.1.2.2.1 i hi, by rw [isdw_r _ _ _ (by decide)]; exact h.1.2.2.2.1, fun j hj => by rw [isdw_r _ _ _ (by decide)]; exact h.1.2.2.2.2 j hj⟩ (by rw [isdw_r _ _ _ (by decide)]) (by rw [isdw_r _ _ _ (by decide)])
theorem WS_psn {n : Nat} {f : wd} (h : WS n f) (hn : n ≤ 64) {k : Nat} (hk : k ≤ 60) : WS (n + 1) (psn f k) := by
  obtain ⟨j, hj, e⟩ := h.2.2
  exact ⟨wOk_psn h.1 (h.d hn) k (by omega), by rw [psn_1 _ _ _ (by decide)]; exact h.2.1, ⟨j + k, by omega, psn_day f e k⟩⟩
theorem WS_go {n : Nat} {f : wd} (h : WS n f) (hn : n ≤ 64) (v : Int32) : ∀ q, a_go f v = .inr q → WS (n + 1) q.2 := by
  intro q hq
  unfold a_go at hq
  split at hq
  · cases hq
  · split at hq
    · rename_i h1 h2
      cases hq
      obtain ⟨k, hk1, hk, rfl⟩ := inI_to1 (a := 1) (b := 60) rfl rfl (by decide) (by decide) h1
      show WS (n + 1) (psn f (nI k).toNatClampNeg)
      rw [nI_clamp (by omega)]
      exact WS_psn h hn hk
    · cases hq
theorem tkn_g (f : wd) (k : Nat) : tkn f k 1 1 = f 1 1 := by
  induction k with
  | zero => rfl
  | succ k ih =>
    show tk1 (tkn f k) 1 1 = _
    unfold tk1
    rw [psw_1 _ _ (by decide), u2_ne (by decide)]
    unfold dr1
    rw [u2_at, if_neg (by decide), u2_at, if_neg (by decide), u2_at, if_neg (by decide), ih]
theorem WS_talk {n : Nat} {f : wd} (h : WS n f) (hn : n ≤ 64) (v : Int32) : ∀ q, a_talk f v = .inr q → WS (n + 1) q.2 := by
  intro q hq
  unfold a_talk at hq
  split at hq
  · cases hq
  · split at hq
    · rename_i h1 h2
      cases hq
      obtain ⟨k, hk1, hk, rfl⟩ := inI_to1 (a := 1) (b := 20) rfl rfl (by decide) (by decide) h1
      show WS (n + 1) (tkn f (nI k).toNatClampNeg)
      rw [nI_clamp (by omega)]
      obtain ⟨j, hj, e⟩ := h.2.2
      exact ⟨wOk_tkn h.1 (h.d hn) k (by omega), by rw [tkn_g]; exact h.2.1, ⟨j + k, by omega, tkn_day f e k⟩⟩
    · cases hq
theorem WS_seed {n : Nat} {f : wd} (h : WS n f) (v : Int32) : ∀ q, a_seed f v = .inr q → WS n q.2 := by
  intro q hq
  cases hq
  show WS n (u2 f 1 3 v)
  refine h.of ⟨by rw [u2_at, if_neg (by decide)]; exact h.1.1, fun j hj => (h.1.2.1 j hj).ext (fun r h1 h2 => by rw [u2_ne (by omega)]), fun i hi => by rw [u2_ne (by decide)]; exact h.1.2.2.1 i hi, by rw [u2_at, if_neg (by decide)]; exact h.1.2.2.2.1, fun j hj => by rw [u2_ne (by decide)]; exact h.1.2.2.2.2 j hj⟩ ?_ ?_ <;>
  · rw [u2_at, if_neg (by decide)]
theorem WS_h9 {n : Nat} {f : wd} (h : WS n f) {i : Nat} {v : Int32} (hv : v = -1 ∨ isN v 8) : WS n (u2 f 9 i v) := by
  refine h.of ⟨by rw [u2_ne (by decide)]; exact h.1.1, fun j hj => (h.1.2.1 j hj).ext (fun r h1 h2 => by rw [u2_ne (by omega)]), fun i hi => by rw [u2_ne (by decide)]; exact h.1.2.2.1 i hi, by rw [u2_ne (by decide)]; exact h.1.2.2.2.1, fun j hj => ?_⟩ (by rw [u2_ne (by decide)]) (by rw [u2_ne (by decide)])
  rw [u2_at]
  by_cases hji : j = i
  · rw [if_pos ⟨rfl, hji⟩]; exact hv
  · rw [if_neg (fun z => hji z.2)]; exact h.1.2.2.2.2 j hj
theorem glOf {f : wd} (h : wOk f) {g : Int32} (hg : ¬ isGlI f g = 0) : ∃ k, k < wN f ∧ g = nI k := by
  obtain ⟨e, e8⟩ := wOk.n h
  unfold isGlI at hg
  rw [e] at hg
  cases hN : wN f with
  | zero =>
    rw [hN] at hg
    exfalso
    apply hg
    unfold inI
    by_cases h0 : g < 0
    · rw [if_pos h0]
    · rw [if_neg h0, if_pos]
      exact Int32.lt_of_lt_of_le (show nI 0 - 1 < 0 by decide) (Int32.not_lt.mp h0)
  | succ q =>
    rw [hN, nI_pred] at hg
    obtain ⟨k, hk, e2⟩ := inI_to (b := q) rfl (by omega) hg
    exact ⟨k, by omega, e2⟩
theorem WS_hold {n : Nat} {f : wd} (h : WS n f) (s g : Int32) : ∀ q, a_hold f s g = .inr q → WS n q.2 := by
  intro q hq
  unfold a_hold at hq
  split at hq
  · cases hq
  · split at hq
    · rename_i h1 h2; cases hq; exact WS_h9 h (Or.inl h2)
    · split at hq
      · cases hq
      · rename_i h1 h2 h3
        cases hq
        obtain ⟨k, hk, rfl⟩ := glOf h.1 h3
        have := (wOk.n h.1).2
        exact WS_h9 h (Or.inr ⟨k, by omega, rfl⟩)
theorem WS_ldW {n : Nat} {f : wd} (h : WS n f) {z : Nat × Nat × (Nat → Int32)} : ∀ m, (∀ i, i < m → ¬ isSayI (z.2.2 i) = 0) → WS n (ldW z f m) := by
  intro m
  induction m with
  | zero => intro _; exact h
  | succ m ih => intro hm; exact WS_list (ih fun i hi => hm i (by omega)) (sOk_of (hm m (by omega)))
theorem fstB_b {P : Nat → Bool} : ∀ m a i, a ≤ i → i < fstB P m a → P i = false := by
  intro m
  induction m with
  | zero => intro a i h1 h2; exact absurd h2 (by show ¬ i < a; omega)
  | succ m ih =>
    intro a i h1 h2
    unfold fstB at h2
    by_cases h : P a = true
    · rw [if_pos h] at h2; omega
    · rw [if_neg h] at h2
      by_cases e : i = a
      · subst e; simpa using h
      · exact ih (a + 1) i (by omega) h2
theorem WS_load {n : Nat} {f : wd} (h : WS n f) (q0 : Nat → shv) (s : Int32) : ∀ q, a_load q0 f s = .inr q → WS n q.2 := by
  intro q hq
  unfold a_load at hq
  cases hz : shq q0 s with
  | inl k => rw [hz] at hq; cases hq
  | inr z =>
    rw [hz] at hq
    cases hq
    refine WS_ldW h _ fun i hi => ?_
    have := fstB_b 7 0 i (Nat.zero_le _) hi
    unfold ldP at this
    have this := of_decide_eq_false this
    exact fun e => this (fun z => z.2.2 e)
/-- an act that leaves the world as it is -/
def rdA (f : wd) (a : act) : Prop := ∀ q, a = .inr q → q.2 = f
theorem rdA.ws {n : Nat} {f : wd} (h : WS n f) {a : act} (hr : rdA f a) : ∀ q, a = .inr q → WS n q.2 := fun q hq => by rw [hr q hq]; exact h
theorem rd_orN (f : wd) (v : Int32) : rdA f (a_orN f v) := by
  intro q hq
  unfold a_orN at hq
  split at hq
  · cases hq
  · cases hq; rfl
/-! sheets of both sides -/
def shR : shv → shv → Prop
  | none, none => True
  | some z, some z' => z.1 = z'.1 ∧ z.2.1 = z'.2.1 ∧ ∀ i, i < z.2.1 → z.2.2 i = z'.2.2 i
  | _, _ => False
def Sim (n : Nat) (x : cst) (y : mst) : Prop := (x.1 0 = y.1 0 ∧ WS n (x.1 0)) ∧ (x.2.1 0 1 = y.2.1 0 0 ∧ (¬ x.2.1 0 1 = 0 → x.1 1 = y.1 3 ∧ WS n (x.1 1))) ∧ (∃ t, t ≤ 120 ∧ x.2.1 0 0 = nI t ∧ y.2.1 0 1 = nI t) ∧ (x.2.1 2 = y.2.1 2 ∧ tpOk (x.2.1 2)) ∧ x.2.1 3 = y.2.1 1 ∧ (shOk2 x ∧ shMk y ∧ ∀ s, s < 4 → shR (shC x s) (shMq y s))
theorem Sim_mk {n m : Nat} {x x' : cst} {y y' : mst} (h : Sim n x y) (hm : n ≤ m) (hw : x'.1 0 = y'.1 0 ∧ WS m (x'.1 0)) (hk : x'.2.1 0 1 = x.2.1 0 1 ∧ y'.2.1 0 0 = y.2.1 0 0 ∧ x'.1 1 = x.1 1 ∧ y'.1 3 = y.1 3) (ht : ∃ t, t ≤ 120 ∧ x'.2.1 0 0 = nI t ∧ y'.2.1 0 1 = nI t) (hp : x'.2.1 2 = y'.2.1 2 ∧ tpOk (x'.2.1 2)) (hf : x'.2.1 3 = y'.2.1 1) (hs : x'.2.2.2 = x.2.2.2 ∧ y'.2.1 3 = y.2.1 3 ∧ y'.2.1 4 = y.2.1 4 ∧ y'.2.1 5 = y.2.1 5) : Sim m x' y' := by
  obtain ⟨-, ⟨h3, h4⟩, -, -, -, h10, h11, h12⟩ := h
  obtain ⟨k1, k2, k3, k4⟩ := hk
  obtain ⟨s1, s2, s3, s4⟩ := hs
  refine ⟨hw, ⟨by rw [k1, k2]; exact h3, fun q => ?_⟩, ht, hp, hf, ?_, ?_, fun s hs => ?_⟩
  · rw [k1] at q
    obtain ⟨a, b⟩ := h4 q
    exact ⟨by rw [k3, k4]; exact a, by rw [k3]; exact b.mono hm⟩
  · unfold shOk2; rw [s1]; exact h10
  · unfold shMk; rw [s2, s3]; exact h11
  · have := h12 s hs
    unfold shC shMq at this ⊢
    rw [s1, s2, s3, s4]; exact this
theorem Sim.mono {n m : Nat} {x : cst} {y : mst} (h : Sim n x y) (hm : n ≤ m) : Sim m x y := Sim_mk h hm ⟨h.1.1, h.1.2.mono hm⟩ ⟨rfl, rfl, rfl, rfl⟩ h.2.2.1 h.2.2.2.1 h.2.2.2.2.1 ⟨rfl, rfl, rfl, rfl⟩
theorem Sim.j {n : Nat} {x x' : cst} {y y' : mst} (h : Sim n x y) (hj : jk x x') (hm : jm y y') : Sim n x' y' := by
  obtain ⟨a1, a2, a3, a4, a5, a6⟩ := hj
  obtain ⟨b1, b2, b3, b4, b5, b6, b7, b8, b9⟩ := hm
  obtain ⟨t, ht, h5, h6⟩ := h.2.2.1
  exact Sim_mk h (Nat.le_refl _) ⟨by rw [a1, b1]; exact h.1.1, by rw [a1]; exact h.1.2⟩ ⟨by rw [a3], b3, a2, b2⟩ ⟨t, ht, by rw [a3]; exact h5, by rw [b4]; exact h6⟩ ⟨by rw [a4, b6]; exact h.2.2.2.1.1, by rw [a4]; exact h.2.2.2.1.2⟩ (by rw [a5, b5]; exact h.2.2.2.2.1) ⟨a6, b7, b8, b9⟩
theorem Sim_fnd {n : Nat} {x : cst} {y : mst} (h : Sim n x y) (k : Nat) : Sim n (fnd x k) (fndM y k) := by
  have h9 := h.2.2.2.2.1
  obtain ⟨t, ht, h5, h6⟩ := h.2.2.1
  refine Sim_mk h (Nat.le_refl _) h.1 ⟨?_, ?_, rfl, rfl⟩ ⟨t, ht, ?_, ?_⟩ ⟨?_, ?_⟩ ?_ ⟨rfl, ?_, ?_, ?_⟩
  · show u2 x.2.1 3 k (x.2.1 3 k + 1) 0 1 = _; rw [u2_ne (by decide)]
  · show u2 y.2.1 1 k (y.2.1 1 k + 1) 0 0 = _; rw [u2_ne (by decide)]
  · show u2 x.2.1 3 k (x.2.1 3 k + 1) 0 0 = _; rw [u2_ne (by decide)]; exact h5
  · show u2 y.2.1 1 k (y.2.1 1 k + 1) 0 1 = _; rw [u2_ne (by decide)]; exact h6
  · show u2 x.2.1 3 k (x.2.1 3 k + 1) 2 = u2 y.2.1 1 k (y.2.1 1 k + 1) 2; rw [u2_ne (by decide), u2_ne (by decide)]; exact h.2.2.2.1.1
  · show tpOk (u2 x.2.1 3 k (x.2.1 3 k + 1) 2); rw [u2_ne (by decide)]; exact h.2.2.2.1.2
  · show u2 x.2.1 3 k (x.2.1 3 k + 1) 3 = u2 y.2.1 1 k (y.2.1 1 k + 1) 1; rw [u2_same, u2_same, h9]
  · show u2 y.2.1 1 k (y.2.1 1 k + 1) 3 = _; rw [u2_ne (by decide)]
  · show u2 y.2.1 1 k (y.2.1 1 k + 1) 4 = _; rw [u2_ne (by decide)]
  · show u2 y.2.1 1 k (y.2.1 1 k + 1) 5 = _; rw [u2_ne (by decide)]
theorem Sim_w {n m : Nat} {x : cst} {y : mst} (h : Sim n x y) (hm : n ≤ m) {f : wd} (hf : WS m f) : Sim m (xs x 0 f) (ys y 0 f) :=
  Sim_mk h hm ⟨by rw [xs_at, ys_at], by rw [xs_at]; exact hf⟩ ⟨rfl, rfl, xs_ne (by decide), ys_ne (by decide)⟩ h.2.2.1 h.2.2.2.1 h.2.2.2.2.1 ⟨rfl, rfl, rfl, rfl⟩
/-- an act upon the world -/
theorem Sim_act {n m : Nat} {x : cst} {y : mst} (h : Sim n x y) (hm : n ≤ m) (a : act) (ha : ∀ q, a = .inr q → WS m q.2) : Sim m (aC x a) (aM y a) := by
  cases a with
  | inl k => exact (Sim_fnd h k).mono hm
  | inr q => exact Sim_w h hm (ha q rfl)
theorem Sim_rd {n : Nat} {x : cst} {y : mst} (h : Sim n x y) (a : act) (ha : rdA (x.1 0) a) : Sim (n + 1) (aC x a) (aM y a) := Sim_act h (by omega) a (rdA.ws (h.1.2.mono (by omega)) ha)
theorem Sim_actL {n : Nat} {x : cst} {y : mst} (h : Sim n x y) (a : actL) : Sim (n + 1) (aCL x a) (aML y a) := by
  cases a with
  | inl k => exact (Sim_fnd h k).mono (by omega)
  | inr q => exact h.mono (by omega)
/-! acts that leave the world -/
theorem rd_said (f : wd) (i : Int32) : rdA f (a_said f i) := by
  intro q hq; unfold a_said at hq; split at hq <;> cases hq; rfl
theorem rd_room (f : wd) (r w : Int32) : rdA f (a_room f r w) := by
  intro q hq; unfold a_room at hq; repeat' split at hq
  all_goals first | (cases hq; rfl) | cases hq
theorem rd_of (f : wd) (g w : Int32) : rdA f (a_of f g w) := by
  intro q hq; unfold a_of at hq; repeat' split at hq
  all_goals first | (cases hq; rfl) | cases hq
theorem rd_who (f : wd) (g w : Int32) : rdA f (a_who f g w) := by
  intro q hq; unfold a_who at hq; repeat' split at hq
  all_goals first | (cases hq; rfl) | cases hq
theorem rd_now (f : wd) (w : Int32) : rdA f (a_now f w) := by
  intro q hq; unfold a_now at hq; repeat' split at hq
  all_goals first | (cases hq; rfl) | cases hq
theorem rd_ahead (f : wd) (g w n : Int32) : rdA f (a_ahead f g w n) := by
  intro q hq; unfold a_ahead at hq; repeat' split at hq
  all_goals first | (cases hq; rfl) | cases hq
theorem rd_hears (f : wd) (g w : Int32) : rdA f (a_hears f g w) := by
  intro q hq; unfold a_hears at hq; repeat' split at hq
  all_goals first | exact rd_orN _ _ q hq | cases hq
theorem rd_wise (f : wd) (g w : Int32) : rdA f (a_wise f g w) := by
  intro q hq; unfold a_wise at hq; repeat' split at hq
  all_goals first | exact rd_orN _ _ q hq | cases hq
theorem rd_out (f : wd) (w : Int32) : rdA f (a_out f w) := by
  intro q hq; unfold a_out at hq; repeat' split at hq
  all_goals first | exact rd_orN _ _ q hq | cases hq
theorem rd_leave (f : wd) (g n : Int32) : rdA f (a_leave f g n) := by
  intro q hq; unfold a_leave at hq; repeat' split at hq
  all_goals first | (cases hq; rfl) | cases hq
theorem rd_kindFor (f : wd) (g n : Int32) : rdA f (a_kindFor f g n) := by
  intro q hq; unfold a_kindFor at hq; repeat' split at hq
  all_goals first | (cases hq; rfl) | cases hq
theorem rd_openFor (f : wd) (g v n : Int32) : rdA f (a_openFor f g v n) := by
  intro q hq; unfold a_openFor at hq; repeat' split at hq
  all_goals first | exact rd_orN _ _ q hq | cases hq
theorem rd_cover (f : wd) (w : Int32) : rdA f (a_cover f w) := by
  intro q hq; unfold a_cover at hq; repeat' split at hq
  all_goals first | exact rd_orN _ _ q hq | cases hq
theorem rd_lower (f : wd) (w : Int32) : rdA f (a_lower f w) := by
  intro q hq; unfold a_lower at hq; repeat' split at hq
  all_goals first | exact rd_orN _ _ q hq | cases hq
theorem rd_away (f : wd) (g t n : Int32) : rdA f (a_away f g t n) := by
  intro q hq; unfold a_away at hq; repeat' split at hq
  all_goals first | exact rd_orN _ _ q hq | cases hq
theorem rd_count (f : wd) (t w : Int32) : rdA f (a_count f t w) := by
  intro q hq; unfold a_count at hq; repeat' split at hq
  all_goals first | (cases hq; rfl) | cases hq
theorem rd_status (r : Nat → Int32) (f : wd) (w : Int32) : rdA f (a_status r f w) := by
  intro q hq; unfold a_status at hq; repeat' split at hq
  all_goals first | (cases hq; rfl) | cases hq
theorem rd_as (f : wd) (s w : Int32) : rdA f (a_as f s w) := by
  intro q hq; unfold a_as at hq; repeat' split at hq
  all_goals first | (cases hq; rfl) | cases hq
theorem rd_judge (q0 : Nat → shv) (f : wd) (s : Int32) : rdA f (a_judge q0 f s) := by
  intro q hq; unfold a_judge at hq; split at hq
  all_goals first | (cases hq; rfl) | cases hq
theorem rd_fits (r many : Nat) (q0 : Nat → shv) (f : wd) (s g : Int32) : rdA f (a_fits r many q0 f s g) := by
  intro q hq; unfold a_fits at hq; repeat' split at hq
  all_goals first | (cases hq; rfl) | cases hq
