/-! the model's reader: items -/
def mxO (mx : Int32) (h : Nat) : Prop := ∀ q, q < 1000010 → (mx.toInt64 < nL q ↔ h ≤ q)
theorem mx_l {mx : Int32} {m : Nat} (e : mx = nI m) (hm : m < 1000000) : mxO mx (m + 1) := by
  intro q hq
  rw [e, nI_L (by omega), nL_lt (by omega) (by omega)]; omega
theorem mx_p {g : Nat} (hg : g < 1000000) : mxO (nI g - 1) g := by
  cases g with
  | zero =>
    intro q hq
    refine ⟨fun _ => Nat.zero_le _, fun _ => ?_⟩
    rw [Int64.lt_iff_toInt_lt, nL_toInt (by omega), Int32.toInt_toInt64]
    show (-1 : Int) < _
    omega
  | succ g => rw [nI_pred]; exact mx_l rfl (by omega)
def okM (n : Nat) (s s' : ms) : Prop := msOk n s' ∧ s'.1 1 1 = s.1 1 1 ∧ s.2.1 ≤ s'.2.1
theorem okM.trans {n : Nat} {s s' s'' : ms} (h : okM n s s') (h2 : okM n s' s'') : okM n s s'' := ⟨h2.1, h2.2.1.trans h.2.1, Nat.le_trans h.2.2 h2.2.2⟩
theorem okM.rfl {n : Nat} {s : ms} (h : msOk n s) : okM n s s := ⟨h, _root_.rfl, Nat.le_refl _⟩
section OM
variable {tp : Nat → Int32} {n : Nat}
theorem okM_next {s : ms} (ht : tpOk tp) (hn : n ≤ 120) (hs : msW n s) : okM n s (nextM tp n s) ∧ (nextM tp n s).1 = s.1 ∧ (nextM tp n s).2.2.2.2.2 = s.2.2.2.2.2 ∧ ((nextM tp n s).2.2.2.1 = 1 → s.2.1 < (nextM tp n s).2.1) := by
  obtain ⟨h1, h2, h3, h4, h5⟩ := nextM_ok ht hn hs
  exact ⟨⟨h1, by rw [h2], h4⟩, h2, h3, h5⟩
theorem okM_wr {s : ms} (hs : msOk n s) : okM n s (wrM s) ∧ (wrM s).1 = s.1 := by
  obtain ⟨w, a, b, k, v, f⟩ := s
  exact ⟨⟨wrM_ok hs, rfl, Nat.le_refl _⟩, rfl⟩
theorem okM_nu {h : Nat} {s : ms} (ht : tpOk tp) (hn : n ≤ 120) (hs : msOk n s) : okM n s (nuM tp n h s).2 ∧ (nuM tp n h s).2.1 = s.1 ∧ ((nuM tp n h s).1 = 0 ∨ (nuM tp n h s).1 < h) := by
  obtain ⟨h1, h2, h3, h4⟩ := nuM_ok (h := h) ht hn hs
  exact ⟨⟨h1, by rw [h2], h4⟩, h2, h3⟩
theorem okM_nuG {h : Nat} {s : ms} (ht : tpOk tp) (hn : n ≤ 120) (hs : msOk n s) : okM n s (nuG tp n h s).2 ∧ (nuG tp n h s).2.1 = s.1 ∧ ((nuG tp n h s).1 = 0 ∨ (nuG tp n h s).1 < h) := by
  obtain ⟨w, a, b, k, v, f⟩ := s
  by_cases c : f = none
  · rw [show nuG tp n h (w, a, b, k, v, f) = nuM tp n h (w, a, b, k, v, f) from if_pos c]
    exact okM_nu ht hn hs
  · rw [show nuG tp n h (w, a, b, k, v, f) = (0, w, a, b, k, v, f) from if_neg c]
    exact ⟨okM.rfl hs, rfl, Or.inl rfl⟩
def perOkM (r h : Nat) : Prop := (r = 1 ∧ h = 6) ∨ perOk r h ∨ (r = 5 ∧ h = 65536)
theorem perM_w {w : wd} {r h : Nat} (hw : wOk w) (hp : perOkM r h) {j z : Nat} (hz : z = 0 ∨ z < h) : wOk (u2 w (2 + r) j (nI z)) := by
  rcases hp with ⟨rfl, rfl⟩ | hp | ⟨rfl, rfl⟩
  · exact wOk_u (r := 3) hw ⟨z, by show z < 6; omega, rfl⟩ (by decide)
  · exact per_w hw hp (by rcases hp with ⟨_, e⟩ | ⟨_, e⟩ | ⟨_, e⟩ <;> omega)
  · exact wOk_u (r := 7) hw ⟨z, by show z < 65536; omega, rfl⟩ (by decide)
theorem okM_pe2 {g r h : Nat} {q : Nat × ms} (hs : msOk n q.2) (hp : perOkM r h) (hz : q.1 = 0 ∨ q.1 < h) : okM n q.2 (peM2 g r q) := by
  obtain ⟨z, w, a, b, k, v, f⟩ := q
  by_cases c : f = none
  · rw [show peM2 g r (z, w, a, b, k, v, f) = (u2 w (2 + r) g (nI z), a, b, k, v, f) from if_pos c]
    exact ⟨⟨perM_w hs.1 hp hz, hs.2⟩, by show u2 w (2 + r) g (nI z) 1 1 = w 1 1; rw [u2_ne (by omega)], Nat.le_refl _⟩
  · rw [show peM2 g r (z, w, a, b, k, v, f) = (w, a, b, k, v, f) from if_neg c]
    exact okM.rfl hs
theorem peM_y {W g r h a b k v : Nat} {w : wd} {f : Option Nat} (hf : f = none) (hk : k = 1 ∧ v = W) : peM tp n W g r h (w, a, b, k, v, f) = peM2 g r (nuM tp n h (nextM tp n (w, a, b, k, v, f))) := if_pos ⟨hf, hk⟩
theorem peM_n {W g r h a b k v : Nat} {w : wd} {f : Option Nat} (hk : ¬ (f = none ∧ k = 1 ∧ v = W)) : peM tp n W g r h (w, a, b, k, v, f) = (w, a, b, k, v, f) := if_neg hk
theorem okM_pe {W g r h : Nat} {s : ms} (ht : tpOk tp) (hn : n ≤ 120) (hs : msOk n s) (hp : perOkM r h) : okM n s (peM tp n W g r h s) := by
  obtain ⟨w, a, b, k, v, f⟩ := s
  by_cases c : f = none ∧ k = 1 ∧ v = W
  · rw [peM_y c.1 c.2]
    obtain ⟨g1, -, -, -⟩ := okM_next ht hn hs.w
    obtain ⟨g2, -, g3⟩ := okM_nu (h := h) ht hn g1.1
    exact (g1.trans g2).trans (okM_pe2 g2.1 hp g3)
  · rw [peM_n c]; exact okM.rfl hs
theorem pOk1 : perOkM 1 6 := Or.inl ⟨rfl, rfl⟩
theorem pOk2 : perOkM 2 10 := Or.inr (Or.inl (Or.inl ⟨rfl, rfl⟩))
theorem pOk3 : perOkM 3 65536 := Or.inr (Or.inl (Or.inr (Or.inl ⟨rfl, rfl⟩)))
theorem pOk4 : perOkM 4 10000 := Or.inr (Or.inl (Or.inr (Or.inr ⟨rfl, rfl⟩)))
theorem pOk5 : perOkM 5 65536 := Or.inr (Or.inr ⟨rfl, rfl⟩)
theorem okM_add {kd a b k v : Nat} {w : wd} {f : Option Nat} (hs : msOk n (w, a, b, k, v, f)) (hk : kd < 7) (h8 : wN w < 8) : okM n (w, a, b, k, v, f) (addw w (nI kd) 0, a, b, k, v, f) := by
  refine ⟨⟨wOk_add hs.1 ⟨kd, hk, rfl⟩ ⟨0, by decide, rfl⟩ h8, hs.2⟩, ?_, Nat.le_refl _⟩
  show addw w (nI kd) 0 1 1 = w 1 1
  unfold addw
  rw [u2_at, if_neg (by decide), u2_ne (by decide), u2_ne (by decide), u2_ne (by decide), clr_1 _ _ _ _ (by decide)]
theorem okM_gl2 {kd : Nat} {s : ms} (ht : tpOk tp) (hn : n ≤ 120) (hs : msOk n s) (hk : kd < 7) (h8 : wN s.1 < 8) : okM n s (gl2 tp n kd s) := by
  obtain ⟨w, a, b, k, v, f⟩ := s
  have g1 := okM_add hs hk h8
  have g2 := okM_pe (W := 257) (g := wN w) ht hn g1.1 pOk1
  have g3 := okM_pe (W := 307058) (g := wN w) ht hn g2.1 pOk2
  have g4 := okM_pe (W := 6132988) (g := wN w) ht hn g3.1 pOk3
  exact (((g1.trans g2).trans g3).trans g4).trans (okM_pe ht hn g4.1 pOk4)
theorem okM_gl {kd : Nat} {s : ms} (ht : tpOk tp) (hn : n ≤ 120) (hs : msOk n s) (hk : kd < 7) : okM n s (glM tp n kd s) := by
  obtain ⟨w, a, b, k, v, f⟩ := s
  by_cases c : wN w = 8
  · rw [show glM tp n kd (w, a, b, k, v, f) = wrM (w, a, b, k, v, f) from if_pos c]
    exact (okM_wr hs).1
  · rw [show glM tp n kd (w, a, b, k, v, f) = gl2 tp n kd (nextM tp n (w, a, b, k, v, f)) from if_neg c]
    obtain ⟨g1, g2, -, -⟩ := okM_next ht hn hs.w
    refine g1.trans (okM_gl2 ht hn g1.1 hk ?_)
    rw [g2]
    have : wN w ≤ 8 := (wOk.n hs.1).2
    show wN w < 8
    omega
theorem okM_sa2 {z1 z2 z3 : Nat} {q : Nat × ms} (hs : msOk n q.2) (h2 : z2 < 6) (h3 : z3 < 16) (h4 : q.1 < 10) : okM n q.2 (sa2 z1 z2 z3 q) := by
  obtain ⟨z, w, a, b, k, v, f⟩ := q
  by_cases c : f = none
  · rw [show sa2 z1 z2 z3 (z, w, a, b, k, v, f) = (u2 w 0 z1 (syI (nI z2) (nI z3) (nI z)), a, b, k, v, f) from if_pos c]
    exact ⟨⟨wOk_l hs.1 (sOk_sy ⟨_, h2, rfl⟩ ⟨_, h3, rfl⟩ ⟨_, h4, rfl⟩), hs.2⟩, by show u2 w 0 z1 (syI (nI z2) (nI z3) (nI z)) 1 1 = w 1 1; rw [u2_ne (by decide)], Nat.le_refl _⟩
  · rw [show sa2 z1 z2 z3 (z, w, a, b, k, v, f) = (w, a, b, k, v, f) from if_neg c]
    exact okM.rfl hs
theorem okM_sa {s : ms} (ht : tpOk tp) (hn : n ≤ 120) (hs : msOk n s) : okM n s (saM tp n s) := by
  obtain ⟨g1, -, -, -⟩ := okM_next ht hn hs.w
  obtain ⟨g2, -, e2⟩ := okM_nu (h := 6) ht hn g1.1
  obtain ⟨g3, -, e3⟩ := okM_nuG (h := 6) ht hn g2.1
  obtain ⟨g4, -, e4⟩ := okM_nuG (h := 16) ht hn g3.1
  obtain ⟨g5, -, e5⟩ := okM_nuG (h := 10) ht hn g4.1
  exact ((((g1.trans g2).trans g3).trans g4).trans g5).trans (okM_sa2 g5.1 (by omega) (by omega) (by omega))
theorem okM_hz {s : ms} (ht : tpOk tp) (hn : n ≤ 120) (hs : msOk n s) : okM n s (hzM tp n s) := by
  obtain ⟨w, a, b, k, v, f⟩ := s
  obtain ⟨g2, -, e2⟩ := okM_nu (h := wN w) ht hn hs
  obtain ⟨g3, -, e3⟩ := okM_nuG (h := 65536) ht hn g2.1
  exact (g2.trans g3).trans (okM_pe2 g3.1 pOk5 e3)
theorem okM_ha {s : ms} (ht : tpOk tp) (hn : n ≤ 120) (hs : msOk n s) : okM n s (haM tp n s) := by
  obtain ⟨g1, -, -, -⟩ := okM_next ht hn hs.w
  exact g1.trans (okM_hz ht hn g1.1)
theorem kd_7 (k v : Nat) : kdN k v ≤ 7 ∧ (kdN k v < 7 → k = 1) := by
  unfold kdN
  repeat' split
  all_goals first | (rename_i h; exact ⟨by decide, fun _ => h.1⟩) | (exact ⟨by decide, fun z => absurd z (by decide)⟩)
theorem kd_l {k v : Nat} (h : kdR k v < 0) : kdN k v = 7 := by
  unfold kdR at h
  by_cases c : kdN k v = 7
  · exact c
  · rw [if_neg c] at h; exact absurd h (nI_pos (by have := (kd_7 k v).1; omega))
theorem kd_g {k v : Nat} (h : ¬ kdR k v < 0) : kdN k v < 7 ∧ kdR k v = nI (kdN k v) := by
  unfold kdR at h ⊢
  by_cases c : kdN k v = 7
  · rw [if_pos c] at h; exact absurd (by decide) h
  · rw [if_neg c]; exact ⟨by have := (kd_7 k v).1; omega, rfl⟩
theorem wz {P : Prop} [Decidable P] : ((if P then (1 : Int32) else 0) = 0) ↔ ¬ P := by
  by_cases h : P
  · rw [if_pos h]; exact ⟨fun z => absurd z (by decide), fun z => absurd h z⟩
  · rw [if_neg h]; exact ⟨fun _ => h, fun _ => rfl⟩
section IT
variable {a b k v : Nat} {w : wd} {f : Option Nat}
theorem nm_y {h : Nat} (hk : k = 2) (hv : v < h) : nuM tp n h (w, a, b, k, v, f) = (v, nextM tp n (w, a, b, k, v, f)) := if_pos ⟨hk, hv⟩
theorem nm_n {h : Nat} (hk : ¬ (k = 2 ∧ v < h)) : nuM tp n h (w, a, b, k, v, f) = (0, wrM (w, a, b, k, v, f)) := if_neg hk
theorem nug_y {h : Nat} (hf : f = none) : nuG tp n h (w, a, b, k, v, f) = nuM tp n h (w, a, b, k, v, f) := if_pos hf
theorem nug_n {h : Nat} (hf : ¬ f = none) : nuG tp n h (w, a, b, k, v, f) = (0, w, a, b, k, v, f) := if_neg hf
theorem itM_g (h : kdN k v < 7) : itM tp n (w, a, b, k, v, f) = glM tp n (kdN k v) (w, a, b, k, v, f) := if_neg (by omega)
theorem itM_s (h : kdN k v = 7) (h2 : k = 1 ∧ v = 374953) : itM tp n (w, a, b, k, v, f) = saM tp n (w, a, b, k, v, f) := by
  show (if kdN k v = 7 then _ else _) = _
  rw [if_pos h, if_pos h2]
theorem itM_h (h : kdN k v = 7) (h2 : ¬ (k = 1 ∧ v = 374953)) (h3 : k = 1 ∧ v = 158575) : itM tp n (w, a, b, k, v, f) = haM tp n (w, a, b, k, v, f) := by
  show (if kdN k v = 7 then _ else _) = _
  rw [if_pos h, if_neg h2, if_pos h3]
theorem itM_x (h : kdN k v = 7) (h2 : ¬ (k = 1 ∧ v = 374953)) (h3 : ¬ (k = 1 ∧ v = 158575)) : itM tp n (w, a, b, k, v, f) = wrM (w, a, b, k, v, f) := by
  show (if kdN k v = 7 then _ else _) = _
  rw [if_pos h, if_neg h2, if_neg h3]
theorem lp_y {g c : Nat} (h : f = none) (h2 : k = 3) : lpM tp n (g + 1) c (w, a, b, k, v, f) = lpM tp n g (c + 1) (itM tp n (nextM tp n (w, a, b, k, v, f))) := if_pos ⟨h, h2⟩
theorem lp_x {g c : Nat} (h : ¬ (f = none ∧ k = 3)) (hg : f = none → 0 < g) : lpM tp n g c (w, a, b, k, v, f) = (c, enM (w, a, b, k, v, f)) := by
  cases g with
  | zero =>
    have hf : ¬ f = none := fun z => absurd (hg z) (by decide)
    show (c, (w, a, b, k, v, f)) = (c, if f = none ∧ ¬ k = 0 then _ else _)
    rw [if_neg (fun z => hf z.1)]
  | succ g => exact if_neg h
theorem en_y (h : f = none) (h2 : ¬ k = 0) : enM (w, a, b, k, v, f) = wrM (w, a, b, k, v, f) := if_pos ⟨h, h2⟩
theorem en_n (h : ¬ (f = none ∧ ¬ k = 0)) : enM (w, a, b, k, v, f) = (w, a, b, k, v, f) := if_neg h
end IT
theorem okM_it {s : ms} (ht : tpOk tp) (hn : n ≤ 120) (hs : msOk n s) : okM n s (itM tp n s) ∧ ((itM tp n s).2.2.2.2.2 = none → s.2.2.2.1 = 1) := by
  obtain ⟨w, a, b, k, v, f⟩ := s
  by_cases c : kdN k v = 7
  · by_cases c2 : k = 1 ∧ v = 374953
    · rw [itM_s c c2]; exact ⟨okM_sa ht hn hs, fun _ => c2.1⟩
    · by_cases c3 : k = 1 ∧ v = 158575
      · rw [itM_h c c2 c3]; exact ⟨okM_ha ht hn hs, fun _ => c3.1⟩
      · rw [itM_x c c2 c3]
        refine ⟨(okM_wr hs).1, fun z => ?_⟩
        exfalso
        have z : (if f = none then some b else f) = none := z
        split at z
        · cases z
        · rename_i h; exact h z
  · have h7 : kdN k v < 7 := by have := (kd_7 k v).1; omega
    rw [itM_g h7]
    exact ⟨okM_gl ht hn hs h7, fun _ => (kd_7 k v).2 h7⟩
end OM
theorem k_X13_wrongHere {l : Launch} {D : va_G} {L : Nat → Nat} {A : Nat → Prop} (y : mst) (n : Nat) (hR : rOkM y n) (w : wd) (a b k v : Nat) (f : Option Nat) (hs : msOk n (w, a, b, k, v, f)) : Met l yX13_wrongHere (ws_ yX13_wrongHere cX13_wrongHere 1 none) ({ frames := 0, cells := 0, slots := 0, locals := 0 } : Room) (va_Pc [.ref (L 0)] (pI D (cfM D L (mdX y (w, a, b, k, v, f))) A)) (nQ D (cfM D L (mdX y (wrM (w, a, b, k, v, f)))) A none) 0 0 A := by
  refine met_I (by decide) rfl (Nat.le_of_ble_eq_true rfl) ?_
  intro p e s m below meth c ls hx hb hr hml hown hts hlocks hl hI hK
  have F : CallFix p m c cX13_wrongHere 1 s _ lw_all RX13 := ⟨hx, hb, hml, hown, hts⟩
  have hl : lv_has ls 1 [(0, .ref (L 0))] := hl
  have hS : va_S A s.heap s.heap [] := va_S.rf
  obtain ⟨hrn, hrN, hrt⟩ := id hR
  obtain ⟨ho0, ha0, hb0, hk0, hv0, hu0, hf0⟩ : wOk w ∧ a ≤ n ∧ b ≤ 120 ∧ k < 5 ∧ (k = 2 → v < 1000010) ∧ v < 4611686018427387904 ∧ (∀ b, f = some b → b ≤ 120) := ⟨hs.1, hs.2.1, hs.2.2.1, hs.2.2.2.1, hs.2.2.2.2.1, hs.2.2.2.2.2.1, hs.2.2.2.2.2.2⟩
  refine lv_aload_n hx hb dX13_wrongHere_0 rfl (lv_at hl 0 rfl) ?_
  refine lv_aload_n hx hb dX13_wrongHere_1 rfl (lv_at hl 0 rfl) ?_
  refine r_get (v := .int (fI f)) (C := RX13) (T := TX13) (N := 18) hx hb hts in_X13 hown hK hI (mf_main) rfl 13 (by decide) (hts _ q1177) (fun _ h => h) (rdv (mx_5 y w a b k v f)) dX13_wrongHere_2 ?_
  refine lv_if_ge (tgt := 15) hx hb dX13_wrongHere_5 (by decide) (fun c_5 => ?_) (fun c_5 => ?_)
  · skip
    have c_5 := Int32.not_lt.mpr c_5
    have hf_5 : ¬ f = none := fun z => c_5 ((fI_lt hs.2.2.2.2.2.2).mpr z)
    refine lv_aload_n hx hb dX13_wrongHere_15 rfl (lv_at hl 0 rfl) ?_
    refine r_get (v := .int (fI f)) (C := RX13) (T := TX13) (N := 18) hx hb hts in_X13 hown hK hI (mf_main) rfl 13 (by decide) (hts _ q1177) (fun _ h => h) (rdv (mx_5 y w a b k v f)) dX13_wrongHere_16 ?_
    refine r_put (C := RX13) (T := TX13) (N := 18) (cf' := cfM D L (yr (mdX y (w, a, b, k, v, f)) 0 5 (fI f))) hx hb hts in_X13 tyX13 tyX13_ok nmX13 hown hK hI hS (mf_main) rfl 13 (by decide) (hts _ q1177) (fun _ h => h) rfl (ty := .int) (by decide +kernel) rfl rfl (Nat.le_of_ble_eq_true rfl) (ms_main rfl (fun _ => rfl) (fun _ h => u2_ne h)) dX13_wrongHere_19 (fun H1 locs1 hI hS => ?_)
    rw [mx_s5] at hI
    exact W.vret hx hb hr (fun t ht _ => ⟨rfl, by rw [ht]; exact hw_eq hI (congrArg (fun z => cfM D L (mdX y z)) (by show _ = (w, a, b, k, v, if f = none then some b else f); first | rw [if_pos hf_5] | rw [if_neg hf_5])), hS.F ht⟩) hS.2.2 dX13_wrongHere_22
  · skip
    have c_5 := Int32.not_le.mp c_5
    have hf_5 : f = none := (fI_lt hs.2.2.2.2.2.2).mp c_5
    refine lv_aload_n hx hb dX13_wrongHere_8 rfl (lv_at hl 0 rfl) ?_
    refine r_get (v := .int (nI b)) (C := RX13) (T := TX13) (N := 18) hx hb hts in_X13 hown hK hI (mf_main) rfl 11 (by decide) (hts _ q1175) (fun _ h => h) (rdv (mx_4 y w a b k v f)) dX13_wrongHere_9 ?_
    refine lv_goto (tgt := 19) hx hb dX13_wrongHere_12 (by decide) ?_
    refine r_put (C := RX13) (T := TX13) (N := 18) (cf' := cfM D L (yr (mdX y (w, a, b, k, v, f)) 0 5 (fI (some b)))) hx hb hts in_X13 tyX13 tyX13_ok nmX13 hown hK hI hS (mf_main) rfl 13 (by decide) (hts _ q1177) (fun _ h => h) rfl (ty := .int) (by decide +kernel) rfl rfl (Nat.le_of_ble_eq_true rfl) (ms_main rfl (fun _ => rfl) (fun _ h => u2_ne h)) dX13_wrongHere_19 (fun H1 locs1 hI hS => ?_)
    rw [mx_s5] at hI
    exact W.vret hx hb hr (fun t ht _ => ⟨rfl, by rw [ht]; exact hw_eq hI (congrArg (fun z => cfM D L (mdX y z)) (by show _ = (w, a, b, k, v, if f = none then some b else f); first | rw [if_pos hf_5] | rw [if_neg hf_5])), hS.F ht⟩) hS.2.2 dX13_wrongHere_22
theorem k_X13_isWord {l : Launch} {D : va_G} {L : Nat → Nat} {A : Nat → Prop} (y : mst) (n : Nat) (hR : rOkM y n) (w : wd) (a b k v : Nat) (f : Option Nat) (hs : msOk n (w, a, b, k, v, f)) (wv : Nat) (hW : wv < 4611686018427387904) : Met l yX13_isWord (ws_ yX13_isWord cX13_isWord 3 (some .boolean)) ({ frames := 0, cells := 0, slots := 0, locals := 0 } : Room) (va_Pc [.ref (L 0), .long (nL wv)] (pI D (cfM D L (mdX y (w, a, b, k, v, f))) A)) (rQ (.int (if k = 1 ∧ v = wv then 1 else 0))) 0 0 nof := by
  refine met_I (by decide) rfl (Nat.le_of_ble_eq_true rfl) ?_
  intro p e s m below meth c ls hx hb hr hml hown hts hlocks hl hI hK
  have F : CallFix p m c cX13_isWord 3 s _ lw_all RX13 := ⟨hx, hb, hml, hown, hts⟩
  have hl : lv_has ls 3 [(0, .ref (L 0)), (1, .long (nL wv))] := hl
  obtain ⟨hrn, hrN, hrt⟩ := id hR
  obtain ⟨ho0, ha0, hb0, hk0, hv0, hu0, hf0⟩ : wOk w ∧ a ≤ n ∧ b ≤ 120 ∧ k < 5 ∧ (k = 2 → v < 1000010) ∧ v < 4611686018427387904 ∧ (∀ b, f = some b → b ≤ 120) := ⟨hs.1, hs.2.1, hs.2.2.1, hs.2.2.2.1, hs.2.2.2.2.1, hs.2.2.2.2.2.1, hs.2.2.2.2.2.2⟩
  refine lv_aload_n hx hb dX13_isWord_0 rfl (lv_at hl 0 rfl) ?_
  refine r_get (v := .int (nI k)) (C := RX13) (T := TX13) (N := 18) hx hb hts in_X13 hown hK hI (mf_main) rfl 10 (by decide) (hts _ q1174) (fun _ h => h) (rdv (mx_3 y w a b k v f)) dX13_isWord_1 ?_
  refine lv_iconst (v := 1) hx hb dX13_isWord_4 (by decide) ?_
  refine lv_icmp_ne (tgt := 21) hx hb dX13_isWord_5 (by decide) (fun c_5 => ?_) (fun c_5 => ?_)
  · skip
    have c_5 : ¬ k = 1 := fun z => c_5 ((neq (a := k) (b := 1) (rfl) (rfl) (by omega) (by omega)).mpr z)
    refine lv_iconst (v := 0) hx hb dX13_isWord_21 (by decide) ?_
    exact W.zret hx hb hr (rfl) (fun t ht _ => ⟨rI (by simp [c_5]), ht⟩) (fun q h => by cases h) dX13_isWord_22
  · skip
    have c_5 : k = 1 := (neq (a := k) (b := 1) (rfl) (rfl) (by omega) (by omega)).mp c_5
    refine lv_aload_n hx hb dX13_isWord_8 rfl (lv_at hl 0 rfl) ?_
    refine r_get (v := .long (nL v)) (C := RX13) (T := TX13) (N := 18) hx hb hts in_X13 hown hK hI (mf_main) rfl 12 (by decide) (hts _ q1176) (fun _ h => h) (rfl) dX13_isWord_9 ?_
    refine lv_lload_n hx hb dX13_isWord_12 rfl (lv_at hl 1 rfl) ?_
    refine W.lcmp hx hb dX13_isWord_13 ?_
    refine lv_if_ne (tgt := 21) hx hb dX13_isWord_14 (by decide) (fun c_14 => ?_) (fun c_14 => ?_)
    · skip
      have c_14 : ¬ v = wv := fun z => c_14 ((lg_cmp_eq _ _).mpr (by rw [z]))
      refine lv_iconst (v := 0) hx hb dX13_isWord_21 (by decide) ?_
      exact W.zret hx hb hr (rfl) (fun t ht _ => ⟨rI (by simp [c_5, c_14]), ht⟩) (fun q h => by cases h) dX13_isWord_22
    · skip
      have c_14 : v = wv := (nL_eq (by omega) (by omega)).mp ((lg_cmp_eq _ _).mp c_14)
      refine lv_iconst (v := 1) hx hb dX13_isWord_17 (by decide) ?_
      refine lv_goto (tgt := 22) hx hb dX13_isWord_18 (by decide) ?_
      exact W.zret hx hb hr (rfl) (fun t ht _ => ⟨rI (by simp [c_5, c_14]), ht⟩) (fun q h => by cases h) dX13_isWord_22
theorem k_X13_kindHere {l : Launch} {D : va_G} {L : Nat → Nat} {A : Nat → Prop} (y : mst) (n : Nat) (hR : rOkM y n) (w : wd) (a b k v : Nat) (f : Option Nat) (hs : msOk n (w, a, b, k, v, f)) : Met l yX13_kindHere (ws_ yX13_kindHere cX13_kindHere 1 (some .int)) ({ frames := 1, cells := 0, slots := 0, locals := 22 } : Room) (va_Pc [.ref (L 0)] (pI D (cfM D L (mdX y (w, a, b, k, v, f))) A)) (rQ (.int (kdR k v))) 0 0 nof := by
  refine met_I (by decide) rfl (Nat.le_of_ble_eq_true rfl) ?_
  intro p e s m below meth c ls hx hb hr hml hown hts hlocks hl hI hK
  have F : CallFix p m c cX13_kindHere 1 s _ lw_all RX13 := ⟨hx, hb, hml, hown, hts⟩
  have hl : lv_has ls 1 [(0, .ref (L 0))] := hl
  obtain ⟨hrn, hrN, hrt⟩ := id hR
  obtain ⟨ho0, ha0, hb0, hk0, hv0, hu0, hf0⟩ : wOk w ∧ a ≤ n ∧ b ≤ 120 ∧ k < 5 ∧ (k = 2 → v < 1000010) ∧ v < 4611686018427387904 ∧ (∀ b, f = some b → b ≤ 120) := ⟨hs.1, hs.2.1, hs.2.2.1, hs.2.2.2.1, hs.2.2.2.2.1, hs.2.2.2.2.2.1, hs.2.2.2.2.2.2⟩
  refine lv_aload_n hx hb dX13_kindHere_0 rfl (lv_at hl 0 rfl) ?_
  refine lv_ldc2 (v := 3967817) hx hb hown (hts _ q1531) dX13_kindHere_1 ?_
  refine c_r (k_V (As := [.long 3967817]) (rest := []) F (k_X13_isWord y n hR w a b k v f hs 3967817 (by omega)) (cwV 1 hts (lw_V q1532 q1534 qs82 q107 q1535) rfl rfl rfl (by decide +kernel) ⟨Nat.le_of_ble_eq_true rfl, Nat.le_of_ble_eq_true rfl⟩) hI hK (hw.recv hI hK (mf_main) rfl) rfl hl.1 rfl (Nat.le_of_ble_eq_true rfl) dX13_kindHere_4 ⟨Nat.le_of_ble_eq_true rfl, Nat.le_of_ble_eq_true rfl⟩) ?_
  refine lv_if_eq (tgt := 14) hx hb dX13_kindHere_7 (by decide) (fun c_7 => ?_) (fun c_7 => ?_)
  · skip
    have hw_7 : ¬ (k = 1 ∧ v = 3967817) := wz.mp c_7
    refine lv_aload_n hx hb dX13_kindHere_14 rfl (lv_at hl 0 rfl) ?_
    refine lv_ldc2 (v := 4393273559) hx hb hown (hts _ q1536) dX13_kindHere_15 ?_
    refine c_r (k_V (As := [.long 4393273559]) (rest := []) F (k_X13_isWord y n hR w a b k v f hs 4393273559 (by omega)) (cwV 1 hts (lw_V q1532 q1534 qs82 q107 q1535) rfl rfl rfl (by decide +kernel) ⟨Nat.le_of_ble_eq_true rfl, Nat.le_of_ble_eq_true rfl⟩) hI hK (hw.recv hI hK (mf_main) rfl) rfl hl.1 rfl (Nat.le_of_ble_eq_true rfl) dX13_kindHere_18 ⟨Nat.le_of_ble_eq_true rfl, Nat.le_of_ble_eq_true rfl⟩) ?_
    refine lv_if_eq (tgt := 28) hx hb dX13_kindHere_21 (by decide) (fun c_21 => ?_) (fun c_21 => ?_)
    · skip
      have hw_21 : ¬ (k = 1 ∧ v = 4393273559) := wz.mp c_21
      refine lv_aload_n hx hb dX13_kindHere_28 rfl (lv_at hl 0 rfl) ?_
      refine lv_ldc2 (v := 191727149) hx hb hown (hts _ q1537) dX13_kindHere_29 ?_
      refine c_r (k_V (As := [.long 191727149]) (rest := []) F (k_X13_isWord y n hR w a b k v f hs 191727149 (by omega)) (cwV 1 hts (lw_V q1532 q1534 qs82 q107 q1535) rfl rfl rfl (by decide +kernel) ⟨Nat.le_of_ble_eq_true rfl, Nat.le_of_ble_eq_true rfl⟩) hI hK (hw.recv hI hK (mf_main) rfl) rfl hl.1 rfl (Nat.le_of_ble_eq_true rfl) dX13_kindHere_32 ⟨Nat.le_of_ble_eq_true rfl, Nat.le_of_ble_eq_true rfl⟩) ?_
      refine lv_if_eq (tgt := 42) hx hb dX13_kindHere_35 (by decide) (fun c_35 => ?_) (fun c_35 => ?_)
      · skip
        have hw_35 : ¬ (k = 1 ∧ v = 191727149) := wz.mp c_35
        refine lv_aload_n hx hb dX13_kindHere_42 rfl (lv_at hl 0 rfl) ?_
        refine lv_ldc2 (v := 237058) hx hb hown (hts _ q1538) dX13_kindHere_43 ?_
        refine c_r (k_V (As := [.long 237058]) (rest := []) F (k_X13_isWord y n hR w a b k v f hs 237058 (by omega)) (cwV 1 hts (lw_V q1532 q1534 qs82 q107 q1535) rfl rfl rfl (by decide +kernel) ⟨Nat.le_of_ble_eq_true rfl, Nat.le_of_ble_eq_true rfl⟩) hI hK (hw.recv hI hK (mf_main) rfl) rfl hl.1 rfl (Nat.le_of_ble_eq_true rfl) dX13_kindHere_46 ⟨Nat.le_of_ble_eq_true rfl, Nat.le_of_ble_eq_true rfl⟩) ?_
        refine lv_if_eq (tgt := 56) hx hb dX13_kindHere_49 (by decide) (fun c_49 => ?_) (fun c_49 => ?_)
        · skip
          have hw_49 : ¬ (k = 1 ∧ v = 237058) := wz.mp c_49
          refine lv_aload_n hx hb dX13_kindHere_56 rfl (lv_at hl 0 rfl) ?_
          refine lv_ldc2 (v := 1489745) hx hb hown (hts _ q1539) dX13_kindHere_57 ?_
          refine c_r (k_V (As := [.long 1489745]) (rest := []) F (k_X13_isWord y n hR w a b k v f hs 1489745 (by omega)) (cwV 1 hts (lw_V q1532 q1534 qs82 q107 q1535) rfl rfl rfl (by decide +kernel) ⟨Nat.le_of_ble_eq_true rfl, Nat.le_of_ble_eq_true rfl⟩) hI hK (hw.recv hI hK (mf_main) rfl) rfl hl.1 rfl (Nat.le_of_ble_eq_true rfl) dX13_kindHere_60 ⟨Nat.le_of_ble_eq_true rfl, Nat.le_of_ble_eq_true rfl⟩) ?_
          refine lv_if_eq (tgt := 70) hx hb dX13_kindHere_63 (by decide) (fun c_63 => ?_) (fun c_63 => ?_)
          · skip
            have hw_63 : ¬ (k = 1 ∧ v = 1489745) := wz.mp c_63
            refine lv_aload_n hx hb dX13_kindHere_70 rfl (lv_at hl 0 rfl) ?_
            refine lv_ldc2 (v := 10497768) hx hb hown (hts _ q1540) dX13_kindHere_71 ?_
            refine c_r (k_V (As := [.long 10497768]) (rest := []) F (k_X13_isWord y n hR w a b k v f hs 10497768 (by omega)) (cwV 1 hts (lw_V q1532 q1534 qs82 q107 q1535) rfl rfl rfl (by decide +kernel) ⟨Nat.le_of_ble_eq_true rfl, Nat.le_of_ble_eq_true rfl⟩) hI hK (hw.recv hI hK (mf_main) rfl) rfl hl.1 rfl (Nat.le_of_ble_eq_true rfl) dX13_kindHere_74 ⟨Nat.le_of_ble_eq_true rfl, Nat.le_of_ble_eq_true rfl⟩) ?_
            refine lv_if_eq (tgt := 84) hx hb dX13_kindHere_77 (by decide) (fun c_77 => ?_) (fun c_77 => ?_)
            · skip
              have hw_77 : ¬ (k = 1 ∧ v = 10497768) := wz.mp c_77
              refine lv_aload_n hx hb dX13_kindHere_84 rfl (lv_at hl 0 rfl) ?_
              refine lv_ldc2 (v := 65782373) hx hb hown (hts _ q1541) dX13_kindHere_85 ?_
              refine c_r (k_V (As := [.long 65782373]) (rest := []) F (k_X13_isWord y n hR w a b k v f hs 65782373 (by omega)) (cwV 1 hts (lw_V q1532 q1534 qs82 q107 q1535) rfl rfl rfl (by decide +kernel) ⟨Nat.le_of_ble_eq_true rfl, Nat.le_of_ble_eq_true rfl⟩) hI hK (hw.recv hI hK (mf_main) rfl) rfl hl.1 rfl (Nat.le_of_ble_eq_true rfl) dX13_kindHere_88 ⟨Nat.le_of_ble_eq_true rfl, Nat.le_of_ble_eq_true rfl⟩) ?_
              refine lv_if_eq (tgt := 99) hx hb dX13_kindHere_91 (by decide) (fun c_91 => ?_) (fun c_91 => ?_)
              · skip
                have hw_91 : ¬ (k = 1 ∧ v = 65782373) := wz.mp c_91
                refine lv_iconst (v := (-1)) hx hb dX13_kindHere_99 (by decide) ?_
                exact W.iret hx hb hr (fun t ht _ => ⟨rI (by simp only [wz, Classical.not_not] at c_7 c_21 c_35 c_49 c_63 c_77 c_91; first | (simp [kdR, kdN, c_7, c_21, c_35, c_49, c_63, c_77, c_91]; done) | (simp [kdR, kdN, c_7, c_21, c_35, c_49, c_63, c_77, c_91]; rfl)), ht⟩) (fun q h => by cases h) dX13_kindHere_100
              · skip
                have hw_91 : k = 1 ∧ v = 65782373 := Classical.byContradiction (fun z => c_91 (wz.mpr z))
                refine lv_bipush (v := 6) hx hb dX13_kindHere_94 (by decide) ?_
                refine lv_goto (tgt := 100) hx hb dX13_kindHere_96 (by decide) ?_
                exact W.iret hx hb hr (fun t ht _ => ⟨rI (by simp only [wz, Classical.not_not] at c_7 c_21 c_35 c_49 c_63 c_77 c_91; first | (simp [kdR, kdN, c_7, c_21, c_35, c_49, c_63, c_77, c_91]; done) | (simp [kdR, kdN, c_7, c_21, c_35, c_49, c_63, c_77, c_91]; rfl)), ht⟩) (fun q h => by cases h) dX13_kindHere_100
            · skip
              have hw_77 : k = 1 ∧ v = 10497768 := Classical.byContradiction (fun z => c_77 (wz.mpr z))
              refine lv_iconst (v := 5) hx hb dX13_kindHere_80 (by decide) ?_
              refine lv_goto (tgt := 100) hx hb dX13_kindHere_81 (by decide) ?_
              exact W.iret hx hb hr (fun t ht _ => ⟨rI (by simp only [wz, Classical.not_not] at c_7 c_21 c_35 c_49 c_63 c_77; first | (simp [kdR, kdN, c_7, c_21, c_35, c_49, c_63, c_77]; done) | (simp [kdR, kdN, c_7, c_21, c_35, c_49, c_63, c_77]; rfl)), ht⟩) (fun q h => by cases h) dX13_kindHere_100
          · skip
            have hw_63 : k = 1 ∧ v = 1489745 := Classical.byContradiction (fun z => c_63 (wz.mpr z))
            refine lv_iconst (v := 4) hx hb dX13_kindHere_66 (by decide) ?_
            refine lv_goto (tgt := 100) hx hb dX13_kindHere_67 (by decide) ?_
            exact W.iret hx hb hr (fun t ht _ => ⟨rI (by simp only [wz, Classical.not_not] at c_7 c_21 c_35 c_49 c_63; first | (simp [kdR, kdN, c_7, c_21, c_35, c_49, c_63]; done) | (simp [kdR, kdN, c_7, c_21, c_35, c_49, c_63]; rfl)), ht⟩) (fun q h => by cases h) dX13_kindHere_100
        · skip
          have hw_49 : k = 1 ∧ v = 237058 := Classical.byContradiction (fun z => c_49 (wz.mpr z))
          refine lv_iconst (v := 3) hx hb dX13_kindHere_52 (by decide) ?_
          refine lv_goto (tgt := 100) hx hb dX13_kindHere_53 (by decide) ?_
          exact W.iret hx hb hr (fun t ht _ => ⟨rI (by simp only [wz, Classical.not_not] at c_7 c_21 c_35 c_49; first | (simp [kdR, kdN, c_7, c_21, c_35, c_49]; done) | (simp [kdR, kdN, c_7, c_21, c_35, c_49]; rfl)), ht⟩) (fun q h => by cases h) dX13_kindHere_100
      · skip
        have hw_35 : k = 1 ∧ v = 191727149 := Classical.byContradiction (fun z => c_35 (wz.mpr z))
        refine lv_iconst (v := 2) hx hb dX13_kindHere_38 (by decide) ?_
        refine lv_goto (tgt := 100) hx hb dX13_kindHere_39 (by decide) ?_
        exact W.iret hx hb hr (fun t ht _ => ⟨rI (by simp only [wz, Classical.not_not] at c_7 c_21 c_35; first | (simp [kdR, kdN, c_7, c_21, c_35]; done) | (simp [kdR, kdN, c_7, c_21, c_35]; rfl)), ht⟩) (fun q h => by cases h) dX13_kindHere_100
    · skip
      have hw_21 : k = 1 ∧ v = 4393273559 := Classical.byContradiction (fun z => c_21 (wz.mpr z))
      refine lv_iconst (v := 1) hx hb dX13_kindHere_24 (by decide) ?_
      refine lv_goto (tgt := 100) hx hb dX13_kindHere_25 (by decide) ?_
      exact W.iret hx hb hr (fun t ht _ => ⟨rI (by simp only [wz, Classical.not_not] at c_7 c_21; first | (simp [kdR, kdN, c_7, c_21]; done) | (simp [kdR, kdN, c_7, c_21]; rfl)), ht⟩) (fun q h => by cases h) dX13_kindHere_100
  · skip
    have hw_7 : k = 1 ∧ v = 3967817 := Classical.byContradiction (fun z => c_7 (wz.mpr z))
    refine lv_iconst (v := 0) hx hb dX13_kindHere_10 (by decide) ?_
    refine lv_goto (tgt := 100) hx hb dX13_kindHere_11 (by decide) ?_
    exact W.iret hx hb hr (fun t ht _ => ⟨rI (by simp only [wz, Classical.not_not] at c_7; first | (simp [kdR, kdN, c_7]; done) | (simp [kdR, kdN, c_7]; rfl)), ht⟩) (fun q h => by cases h) dX13_kindHere_100
theorem k_X13_numberHere {l : Launch} {D : va_G} {L : Nat → Nat} {A : Nat → Prop} (y : mst) (n : Nat) (hR : rOkM y n) (w : wd) (a b k v : Nat) (f : Option Nat) (hs : msOk n (w, a, b, k, v, f)) (mx : Int32) (h : Nat) (hm : mxO mx h) : Met l yX13_numberHere (ws_ yX13_numberHere cX13_numberHere 3 (some .int)) ({ frames := 2, cells := 0, slots := 0, locals := 42 } : Room) (va_Pc [.ref (L 0), .int mx] (pI D (cfM D L (mdX y (w, a, b, k, v, f))) A)) (nQ D (cfM D L (mdX y (nuM (y.2.1 2) n h (w, a, b, k, v, f)).2)) A (some (.int (nI (nuM (y.2.1 2) n h (w, a, b, k, v, f)).1)))) 0 0 A := by
  refine met_I (by decide) rfl (Nat.le_of_ble_eq_true rfl) ?_
  intro p e s m below meth c ls hx hb hr hml hown hts hlocks hl hI hK
  have F : CallFix p m c cX13_numberHere 3 s _ lw_all RX13 := ⟨hx, hb, hml, hown, hts⟩
  have hl : lv_has ls 3 [(0, .ref (L 0)), (1, .int mx)] := hl
  have hS : va_S A s.heap s.heap [] := va_S.rf
  obtain ⟨hrn, hrN, hrt⟩ := id hR
  obtain ⟨ho0, ha0, hb0, hk0, hv0, hu0, hf0⟩ : wOk w ∧ a ≤ n ∧ b ≤ 120 ∧ k < 5 ∧ (k = 2 → v < 1000010) ∧ v < 4611686018427387904 ∧ (∀ b, f = some b → b ≤ 120) := ⟨hs.1, hs.2.1, hs.2.2.1, hs.2.2.2.1, hs.2.2.2.2.1, hs.2.2.2.2.2.1, hs.2.2.2.2.2.2⟩
  refine lv_aload_n hx hb dX13_numberHere_0 rfl (lv_at hl 0 rfl) ?_
  refine r_get (v := .long (nL v)) (C := RX13) (T := TX13) (N := 18) hx hb hts in_X13 hown hK hI (mf_main) rfl 12 (by decide) (hts _ q1176) (fun _ h => h) (rfl) dX13_numberHere_1 ?_
  refine lv_l2i (v := (nL v : Int64).toInt32) hx hb dX13_numberHere_4 rfl ?_
  rw [nL_i]
  refine lv_istore_n (lv' := [(2, .int (nI v)), (0, .ref (L 0)), (1, .int mx)]) hx hb dX13_numberHere_5 rfl hl (by decide) rfl (fun ls hl => ?_)
  refine lv_aload_n hx hb dX13_numberHere_6 rfl (lv_at hl 1 rfl) ?_
  refine r_get (v := .int (nI k)) (C := RX13) (T := TX13) (N := 18) hx hb hts in_X13 hown hK hI (mf_main) rfl 10 (by decide) (hts _ q1174) (fun _ h => h) (rdv (mx_3 y w a b k v f)) dX13_numberHere_7 ?_
  refine lv_iconst (v := 2) hx hb dX13_numberHere_10 (by decide) ?_
  refine lv_icmp_ne (tgt := 24) hx hb dX13_numberHere_11 (by decide) (fun c_11 => ?_) (fun c_11 => ?_)
  · skip
    have c_11 : ¬ k = 2 := fun z => c_11 ((neq (a := k) (b := 2) (rfl) (rfl) (by omega) (by omega)).mpr z)
    refine lv_aload_n hx hb dX13_numberHere_24 rfl (lv_at hl 1 rfl) ?_
    refine c_m (k_V (As := []) (rest := []) F (k_X13_wrongHere y n hR w a b k v f hs) (cwV 0 hts (lw_V q1546 q1548 qs84 q107 q1549) rfl rfl rfl (by decide +kernel) ⟨Nat.le_of_ble_eq_true rfl, Nat.le_of_ble_eq_true rfl⟩) hI hK (hw.recv hI hK (mf_main) rfl) rfl hl.1 rfl (Nat.le_of_ble_eq_true rfl) dX13_numberHere_25 ⟨Nat.le_of_ble_eq_true rfl, Nat.le_of_ble_eq_true rfl⟩) hS (fun H1 locs1 hI hS => ?_)
    have hs1 := okM_wr hs
    rcases hq1 : wrM (w, a, b, k, v, f) with ⟨w1, a1, b1, k1, v1, f1⟩
    have hI : hw D (cfM D L (mdX y (w1, a1, b1, k1, v1, f1))) A H1 := by rw [hq1] at hI; exact hI
    rw [hq1] at hs1
    obtain ⟨⟨hs1, hg1, hm1⟩, hw1⟩ := hs1
    have hm1 : a ≤ a1 := hm1
    have hg1 : w1 1 1 = w 1 1 := hg1
    have hw1 : w1 = w := hw1
    have hk1 : k1 < 5 := hs1.2.2.2.1
    have hv1 : k1 = 2 → v1 < 1000010 := hs1.2.2.2.2.1
    have hu1 : v1 < 4611686018427387904 := hs1.2.2.2.2.2.1
    have ha1 : a1 ≤ n := hs1.2.1
    have h81 : wN w1 ≤ 8 := (wOk.n hs1.1).2
    refine lv_iconst (v := 0) hx hb dX13_numberHere_28 (by decide) ?_
    exact W.iret hx hb hr (fun t ht _ => ⟨rI (by first | (rw [nm_y c_11 hvh]; done) | (rw [nm_n (by omega)]; rfl)), by rw [ht]; exact hw_eq hI (congrArg (fun z => cfM D L (mdX y z)) (by first | (rw [nm_y c_11 hvh, hq1]; done) | (rw [nm_n (by omega), hq1]))), hS.F ht⟩) hS.2.2 dX13_numberHere_29
  · skip
    have c_11 : k = 2 := (neq (a := k) (b := 2) (rfl) (rfl) (by omega) (by omega)).mp c_11
    refine lv_aload_n hx hb dX13_numberHere_14 rfl (lv_at hl 1 rfl) ?_
    refine r_get (v := .long (nL v)) (C := RX13) (T := TX13) (N := 18) hx hb hts in_X13 hown hK hI (mf_main) rfl 12 (by decide) (hts _ q1176) (fun _ h => h) (rfl) dX13_numberHere_15 ?_
    refine lv_iload_n hx hb dX13_numberHere_18 rfl (lv_at hl 2 rfl) ?_
    refine lv_i2l (v := (mx : Int32).toInt64) hx hb dX13_numberHere_19 rfl ?_
    refine W.lcmp hx hb dX13_numberHere_20 ?_
    refine lv_if_le (tgt := 30) hx hb dX13_numberHere_21 (by decide) (fun c_21 => ?_) (fun c_21 => ?_)
    · skip
      have c_21 := Int32.not_lt.mpr c_21
      have hvh : v < h := Nat.lt_of_not_le (fun z => c_21 ((lg_cmp_gt _ _).mpr ((hm v (hv0 c_11)).mpr z)))
      refine lv_aload_n hx hb dX13_numberHere_30 rfl (lv_at hl 1 rfl) ?_
      refine c_m (k_V (As := []) (rest := []) F (k_X13_next y n hR w a b k v f (msOk.w hs)) (cwV 0 hts (lw_V q1505 q1507 qs78 q107 q1508) rfl rfl rfl (by decide +kernel) ⟨Nat.le_of_ble_eq_true rfl, Nat.le_of_ble_eq_true rfl⟩) hI hK (hw.recv hI hK (mf_main) rfl) rfl hl.1 rfl (Nat.le_of_ble_eq_true rfl) dX13_numberHere_31 ⟨Nat.le_of_ble_eq_true rfl, Nat.le_of_ble_eq_true rfl⟩) hS (fun H1 locs1 hI hS => ?_)
      have hs2 := okM_next hrt hrN (msOk.w hs)
      rcases hq2 : nextM (y.2.1 2) n (w, a, b, k, v, f) with ⟨w2, a2, b2, k2, v2, f2⟩
      have hI : hw D (cfM D L (mdX y (w2, a2, b2, k2, v2, f2))) A H1 := by rw [hq2] at hI; exact hI
      rw [hq2] at hs2
      obtain ⟨⟨hs2, hg2, hm2⟩, hw2, hff2, hn2⟩ := hs2
      have hm2 : a ≤ a2 := hm2
      have hg2 : w2 1 1 = w 1 1 := hg2
      have hw2 : w2 = w := hw2
      have hk2 : k2 < 5 := hs2.2.2.2.1
      have hv2 : k2 = 2 → v2 < 1000010 := hs2.2.2.2.2.1
      have hu2 : v2 < 4611686018427387904 := hs2.2.2.2.2.2.1
      have ha2 : a2 ≤ n := hs2.2.1
      have h82 : wN w2 ≤ 8 := (wOk.n hs2.1).2
      refine lv_iload_n hx hb dX13_numberHere_34 rfl (lv_at hl 0 rfl) ?_
      exact W.iret hx hb hr (fun t ht _ => ⟨rI (by first | (rw [nm_y c_11 hvh]; done) | (rw [nm_n (by omega)]; rfl)), by rw [ht]; exact hw_eq hI (congrArg (fun z => cfM D L (mdX y z)) (by first | (rw [nm_y c_11 hvh, hq2]; done) | (rw [nm_n (by omega), hq2]))), hS.F ht⟩) hS.2.2 dX13_numberHere_35
    · skip
      have c_21 := Int32.not_le.mp c_21
      have hvh : ¬ v < h := Nat.not_lt.mpr ((hm v (hv0 c_11)).mp ((lg_cmp_gt _ _).mp c_21))
      refine lv_aload_n hx hb dX13_numberHere_24 rfl (lv_at hl 1 rfl) ?_
      refine c_m (k_V (As := []) (rest := []) F (k_X13_wrongHere y n hR w a b k v f hs) (cwV 0 hts (lw_V q1546 q1548 qs84 q107 q1549) rfl rfl rfl (by decide +kernel) ⟨Nat.le_of_ble_eq_true rfl, Nat.le_of_ble_eq_true rfl⟩) hI hK (hw.recv hI hK (mf_main) rfl) rfl hl.1 rfl (Nat.le_of_ble_eq_true rfl) dX13_numberHere_25 ⟨Nat.le_of_ble_eq_true rfl, Nat.le_of_ble_eq_true rfl⟩) hS (fun H1 locs1 hI hS => ?_)
      have hs3 := okM_wr hs
      rcases hq3 : wrM (w, a, b, k, v, f) with ⟨w3, a3, b3, k3, v3, f3⟩
      have hI : hw D (cfM D L (mdX y (w3, a3, b3, k3, v3, f3))) A H1 := by rw [hq3] at hI; exact hI
      rw [hq3] at hs3
      obtain ⟨⟨hs3, hg3, hm3⟩, hw3⟩ := hs3
      have hm3 : a ≤ a3 := hm3
      have hg3 : w3 1 1 = w 1 1 := hg3
      have hw3 : w3 = w := hw3
      have hk3 : k3 < 5 := hs3.2.2.2.1
      have hv3 : k3 = 2 → v3 < 1000010 := hs3.2.2.2.2.1
      have hu3 : v3 < 4611686018427387904 := hs3.2.2.2.2.2.1
      have ha3 : a3 ≤ n := hs3.2.1
      have h83 : wN w3 ≤ 8 := (wOk.n hs3.1).2
      refine lv_iconst (v := 0) hx hb dX13_numberHere_28 (by decide) ?_
      exact W.iret hx hb hr (fun t ht _ => ⟨rI (by first | (rw [nm_y c_11 hvh]; done) | (rw [nm_n (by omega)]; rfl)), by rw [ht]; exact hw_eq hI (congrArg (fun z => cfM D L (mdX y z)) (by first | (rw [nm_y c_11 hvh, hq3]; done) | (rw [nm_n (by omega), hq3]))), hS.F ht⟩) hS.2.2 dX13_numberHere_29
theorem k_X13_perhaps {l : Launch} {D : va_G} {L : Nat → Nat} {A : Nat → Prop} (y : mst) (n : Nat) (hR : rOkM y n) (w : wd) (a b k v : Nat) (f : Option Nat) (hs : msOk n (w, a, b, k, v, f)) (wv g r h : Nat) (hW : wv < 4611686018427387904) (hg : g < 8) (hr7 : r < 7) (hm : mxO (moI (nI r)) h) : Met l yX13_perhaps (ws_ yX13_perhaps cX13_perhaps 6 none) ({ frames := 3, cells := 0, slots := 0, locals := 64 } : Room) (va_Pc [.ref (L 0), .long (nL wv), .int (nI g), .int (nI r)] (pI D (cfM D L (mdX y (w, a, b, k, v, f))) A)) (nQ D (cfM D L (mdX y (peM (y.2.1 2) n wv g r h (w, a, b, k, v, f)))) A none) 0 0 A := by
  refine met_I (by decide) rfl (Nat.le_of_ble_eq_true rfl) ?_
  intro p e s m below meth c ls hx hb hr hml hown hts hlocks hl hI hK
  have F : CallFix p m c cX13_perhaps 6 s _ lw_all RX13 := ⟨hx, hb, hml, hown, hts⟩
  have hl : lv_has ls 6 [(0, .ref (L 0)), (1, .long (nL wv)), (3, .int (nI g)), (4, .int (nI r))] := hl
  have hS : va_S A s.heap s.heap [] := va_S.rf
  obtain ⟨hrn, hrN, hrt⟩ := id hR
  obtain ⟨ho0, ha0, hb0, hk0, hv0, hu0, hf0⟩ : wOk w ∧ a ≤ n ∧ b ≤ 120 ∧ k < 5 ∧ (k = 2 → v < 1000010) ∧ v < 4611686018427387904 ∧ (∀ b, f = some b → b ≤ 120) := ⟨hs.1, hs.2.1, hs.2.2.1, hs.2.2.2.1, hs.2.2.2.2.1, hs.2.2.2.2.2.1, hs.2.2.2.2.2.2⟩
  refine lv_aload_n hx hb dX13_perhaps_0 rfl (lv_at hl 0 rfl) ?_
  refine r_get (v := .int (fI f)) (C := RX13) (T := TX13) (N := 18) hx hb hts in_X13 hown hK hI (mf_main) rfl 13 (by decide) (hts _ q1177) (fun _ h => h) (rdv (mx_5 y w a b k v f)) dX13_perhaps_1 ?_
  refine lv_if_ge (tgt := 46) hx hb dX13_perhaps_4 (by decide) (fun c_4 => ?_) (fun c_4 => ?_)
  · skip
    have c_4 := Int32.not_lt.mpr c_4
    have hf_4 : ¬ f = none := fun z => c_4 ((fI_lt hs.2.2.2.2.2.2).mpr z)
    exact W.vret hx hb hr (fun t ht _ => ⟨rfl, by rw [ht]; exact hw_eq hI (congrArg (fun z => cfM D L (mdX y z)) (by first | (rw [peM_n (fun z => hf_4 z.1)]; done) | (rw [peM_n (fun z => hw_12 z.2)]; done) | (rw [peM_y hf_4 hw_12, ]; first | exact (if_pos hf_34).symm | exact (if_neg hf_34).symm))), hS.F ht⟩) hS.2.2 dX13_perhaps_46
  · skip
    have c_4 := Int32.not_le.mp c_4
    have hf_4 : f = none := (fI_lt hs.2.2.2.2.2.2).mp c_4
    refine lv_aload_n hx hb dX13_perhaps_7 rfl (lv_at hl 0 rfl) ?_
    refine lv_lload_n hx hb dX13_perhaps_8 rfl (lv_at hl 1 rfl) ?_
    refine c_r (k_V (As := [.long (nL wv)]) (rest := []) F (k_X13_isWord y n hR w a b k v f hs wv (by omega)) (cwV 1 hts (lw_V q1532 q1534 qs82 q107 q1535) rfl rfl rfl (by decide +kernel) ⟨Nat.le_of_ble_eq_true rfl, Nat.le_of_ble_eq_true rfl⟩) hI hK (hw.recv hI hK (mf_main) rfl) rfl hl.1 rfl (Nat.le_of_ble_eq_true rfl) dX13_perhaps_9 ⟨Nat.le_of_ble_eq_true rfl, Nat.le_of_ble_eq_true rfl⟩) ?_
    refine lv_if_eq (tgt := 46) hx hb dX13_perhaps_12 (by decide) (fun c_12 => ?_) (fun c_12 => ?_)
    · skip
      have hw_12 : ¬ (k = 1 ∧ v = wv) := wz.mp c_12
      exact W.vret hx hb hr (fun t ht _ => ⟨rfl, by rw [ht]; exact hw_eq hI (congrArg (fun z => cfM D L (mdX y z)) (by first | (rw [peM_n (fun z => hf_4 z.1)]; done) | (rw [peM_n (fun z => hw_12 z.2)]; done) | (rw [peM_y hf_4 hw_12, ]; first | exact (if_pos hf_34).symm | exact (if_neg hf_34).symm))), hS.F ht⟩) hS.2.2 dX13_perhaps_46
    · skip
      have hw_12 : k = 1 ∧ v = wv := Classical.byContradiction (fun z => c_12 (wz.mpr z))
      refine lv_aload_n hx hb dX13_perhaps_15 rfl (lv_at hl 0 rfl) ?_
      refine c_m (k_V (As := []) (rest := []) F (k_X13_next y n hR w a b k v f (msOk.w hs)) (cwV 0 hts (lw_V q1505 q1507 qs78 q107 q1508) rfl rfl rfl (by decide +kernel) ⟨Nat.le_of_ble_eq_true rfl, Nat.le_of_ble_eq_true rfl⟩) hI hK (hw.recv hI hK (mf_main) rfl) rfl hl.1 rfl (Nat.le_of_ble_eq_true rfl) dX13_perhaps_16 ⟨Nat.le_of_ble_eq_true rfl, Nat.le_of_ble_eq_true rfl⟩) hS (fun H1 locs1 hI hS => ?_)
      have hs1 := okM_next hrt hrN (msOk.w hs)
      rcases hq1 : nextM (y.2.1 2) n (w, a, b, k, v, f) with ⟨w1, a1, b1, k1, v1, f1⟩
      have hI : hw D (cfM D L (mdX y (w1, a1, b1, k1, v1, f1))) A H1 := by rw [hq1] at hI; exact hI
      rw [hq1] at hs1
      obtain ⟨⟨hs1, hg1, hm1⟩, hw1, hff1, hn1⟩ := hs1
      have hm1 : a ≤ a1 := hm1
      have hg1 : w1 1 1 = w 1 1 := hg1
      have hw1 : w1 = w := hw1
      have hk1 : k1 < 5 := hs1.2.2.2.1
      have hv1 : k1 = 2 → v1 < 1000010 := hs1.2.2.2.2.1
      have hu1 : v1 < 4611686018427387904 := hs1.2.2.2.2.2.1
      have ha1 : a1 ≤ n := hs1.2.1
      have h81 : wN w1 ≤ 8 := (wOk.n hs1.1).2
      refine lv_aload_n hx hb dX13_perhaps_19 rfl (lv_at hl 0 rfl) ?_
      refine lv_iload hx hb dX13_perhaps_20 (lv_at hl 3 rfl) ?_
      refine c_r (k_S (As := [.int (nI r)]) (rest := [.ref (L 0)]) F (k_X13_mostOf (nI r)) (va_cwS 1 hts (lw_S q1317 q1318 q107 q1319) rfl rfl rfl (by decide +kernel) ⟨Nat.le_of_ble_eq_true rfl, Nat.le_of_ble_eq_true rfl⟩) rfl hl.1 rfl (Nat.le_of_ble_eq_true rfl) dX13_perhaps_22 ⟨Nat.le_of_ble_eq_true rfl, Nat.le_of_ble_eq_true rfl⟩) ?_
      refine c_m (k_V (As := [.int (moI (nI r))]) (rest := []) F (k_X13_numberHere y n hR w1 a1 b1 k1 v1 f1 hs1 (moI (nI r)) h hm) (cwV 1 hts (lw_V q1555 q1557 qs86 q107 q1558) rfl rfl rfl (by decide +kernel) ⟨Nat.le_of_ble_eq_true rfl, Nat.le_of_ble_eq_true rfl⟩) hI hK (hw.recv hI hK (mf_main) rfl) rfl hl.1 rfl (Nat.le_of_ble_eq_true rfl) dX13_perhaps_25 ⟨Nat.le_of_ble_eq_true rfl, Nat.le_of_ble_eq_true rfl⟩) hS (fun H1 locs1 hI hS => ?_)
      have hs2 := okM_nu hrt hrN hs1 (h := h)
      rcases hq2 : nuM (y.2.1 2) n h (w1, a1, b1, k1, v1, f1) with ⟨z2, w2, a2, b2, k2, v2, f2⟩
      have hI : hw D (cfM D L (mdX y (w2, a2, b2, k2, v2, f2))) A H1 := by rw [hq2] at hI; exact hI
      rw [hq2] at hs2
      obtain ⟨⟨hs2, hg2, hm2⟩, hw2, hz2⟩ := hs2
      have hz2 : z2 = 0 ∨ z2 < _ := hz2
      have hm2 : a1 ≤ a2 := hm2
      have hg2 : w2 1 1 = w1 1 1 := hg2
      have hw2 : w2 = w1 := hw2
      have hk2 : k2 < 5 := hs2.2.2.2.1
      have hv2 : k2 = 2 → v2 < 1000010 := hs2.2.2.2.2.1
      have hu2 : v2 < 4611686018427387904 := hs2.2.2.2.2.2.1
      have ha2 : a2 ≤ n := hs2.2.1
      have h82 : wN w2 ≤ 8 := (wOk.n hs2.1).2
      refine lv_istore (lv' := [(5, .int (nI z2)), (0, .ref (L 0)), (1, .long (nL wv)), (3, .int (nI g)), (4, .int (nI r))]) hx hb dX13_perhaps_28 hl (by decide) rfl (fun ls hl => ?_)
      refine lv_aload_n hx hb dX13_perhaps_30 rfl (lv_at hl 1 rfl) ?_
      refine r_get (v := .int (fI f2)) (C := RX13) (T := TX13) (N := 18) hx hb hts in_X13 hown hK hI (mf_main) rfl 13 (by decide) (hts _ q1177) (fun _ h => h) (rdv (mx_5 y w2 a2 b2 k2 v2 f2)) dX13_perhaps_31 ?_
      refine lv_if_ge (tgt := 46) hx hb dX13_perhaps_34 (by decide) (fun c_34 => ?_) (fun c_34 => ?_)
      · skip
        have c_34 := Int32.not_lt.mpr c_34
        have hf_34 : ¬ f2 = none := fun z => c_34 ((fI_lt hs2.2.2.2.2.2.2).mpr z)
        exact W.vret hx hb hr (fun t ht _ => ⟨rfl, by rw [ht]; exact hw_eq hI (congrArg (fun z => cfM D L (mdX y z)) (by first | (rw [peM_n (fun z => hf_4 z.1)]; done) | (rw [peM_n (fun z => hw_12 z.2)]; done) | (rw [peM_y hf_4 hw_12, hq1, hq2]; first | exact (if_pos hf_34).symm | exact (if_neg hf_34).symm))), hS.F ht⟩) hS.2.2 dX13_perhaps_46
      · skip
        have c_34 := Int32.not_le.mp c_34
        have hf_34 : f2 = none := (fI_lt hs2.2.2.2.2.2.2).mp c_34
        refine lv_aload_n hx hb dX13_perhaps_37 rfl (lv_at hl 1 rfl) ?_
        refine lv_iload_n hx hb dX13_perhaps_38 rfl (lv_at hl 3 rfl) ?_
        refine lv_iload hx hb dX13_perhaps_39 (lv_at hl 4 rfl) ?_
        refine lv_iload hx hb dX13_perhaps_41 (lv_at hl 0 rfl) ?_
        refine c_m (k_V (As := [.int (nI g), .int (nI r), .int (nI z2)]) (rest := []) F (k_X13_sets (mdX y (w2, a2, b2, k2, v2, f2)) (nI g) (nI r) g r (nI z2) (by omega) (by omega) rfl rfl) (cwV 3 hts (lw_V q1281 q1283 qs54 q107 q1284) rfl rfl rfl (by decide +kernel) ⟨Nat.le_of_ble_eq_true rfl, Nat.le_of_ble_eq_true rfl⟩) hI hK (hw.recv hI hK (mf_main) rfl) rfl hl.1 rfl (Nat.le_of_ble_eq_true rfl) dX13_perhaps_43 ⟨Nat.le_of_ble_eq_true rfl, Nat.le_of_ble_eq_true rfl⟩) hS (fun H1 locs1 hI hS => ?_)
        rw [mx_w, mx_xs] at hI
        exact W.vret hx hb hr (fun t ht _ => ⟨rfl, by rw [ht]; exact hw_eq hI (congrArg (fun z => cfM D L (mdX y z)) (by first | (rw [peM_n (fun z => hf_4 z.1)]; done) | (rw [peM_n (fun z => hw_12 z.2)]; done) | (rw [peM_y hf_4 hw_12, hq1, hq2]; first | exact (if_pos hf_34).symm | exact (if_neg hf_34).symm))), hS.F ht⟩) hS.2.2 dX13_perhaps_46
theorem k_X13_gloveHere {l : Launch} {D : va_G} {L : Nat → Nat} {A : Nat → Prop} (y : mst) (n : Nat) (hR : rOkM y n) (w : wd) (a b k v : Nat) (f : Option Nat) (hs : msOk n (w, a, b, k, v, f)) (kd : Nat) (hkd : kd < 7) : Met l yX13_gloveHere (ws_ yX13_gloveHere cX13_gloveHere 3 none) ({ frames := 4, cells := 0, slots := 0, locals := 89 } : Room) (va_Pc [.ref (L 0), .int (nI kd)] (pI D (cfM D L (mdX y (w, a, b, k, v, f))) A)) (nQ D (cfM D L (mdX y (glM (y.2.1 2) n kd (w, a, b, k, v, f)))) A none) 0 0 A := by
  refine met_I (by decide) rfl (Nat.le_of_ble_eq_true rfl) ?_
  intro p e s m below meth c ls hx hb hr hml hown hts hlocks hl hI hK
  have F : CallFix p m c cX13_gloveHere 3 s _ lw_all RX13 := ⟨hx, hb, hml, hown, hts⟩
  have hl : lv_has ls 3 [(0, .ref (L 0)), (1, .int (nI kd))] := hl
  have hS : va_S A s.heap s.heap [] := va_S.rf
  obtain ⟨hrn, hrN, hrt⟩ := id hR
  obtain ⟨ho0, ha0, hb0, hk0, hv0, hu0, hf0⟩ : wOk w ∧ a ≤ n ∧ b ≤ 120 ∧ k < 5 ∧ (k = 2 → v < 1000010) ∧ v < 4611686018427387904 ∧ (∀ b, f = some b → b ≤ 120) := ⟨hs.1, hs.2.1, hs.2.2.1, hs.2.2.2.1, hs.2.2.2.2.1, hs.2.2.2.2.2.1, hs.2.2.2.2.2.2⟩
  have h80 : wN w ≤ 8 := (wOk.n hs.1).2
  refine lv_aload_n hx hb dX13_gloveHere_0 rfl (lv_at hl 0 rfl) ?_
  refine r_get (C := RX13) (T := TX13) (N := 18) hx hb hts in_X13 hown hK hI (mf_main) rfl 0 (by decide) (hts _ q1164) (fun _ h => h) rfl dX13_gloveHere_1 ?_
  refine lv_iconst (v := 0) hx hb dX13_gloveHere_4 (by decide) ?_
  refine n_ialdv (k := 0) (v := nI (wN w)) hx hb hK hI (mf_d) (rfl) (by decide) (by decide) ((congrFun (congrFun (mx_w y w a b k v f) 1) 0).trans (wOk.n hs.1).1) dX13_gloveHere_5 ?_
  refine lv_bipush (v := 8) hx hb dX13_gloveHere_6 (by decide) ?_
  refine lv_icmp_ne (tgt := 16) hx hb dX13_gloveHere_8 (by decide) (fun c_8 => ?_) (fun c_8 => ?_)
  · skip
    have c_8 : ¬ wN w = 8 := fun z => c_8 ((neq (a := wN w) (b := 8) (rfl) (rfl) (by omega) (by omega)).mpr z)
    refine lv_aload_n hx hb dX13_gloveHere_16 rfl (lv_at hl 0 rfl) ?_
    refine c_m (k_V (As := []) (rest := []) F (k_X13_next y n hR w a b k v f (msOk.w hs)) (cwV 0 hts (lw_V q1505 q1507 qs78 q107 q1508) rfl rfl rfl (by decide +kernel) ⟨Nat.le_of_ble_eq_true rfl, Nat.le_of_ble_eq_true rfl⟩) hI hK (hw.recv hI hK (mf_main) rfl) rfl hl.1 rfl (Nat.le_of_ble_eq_true rfl) dX13_gloveHere_17 ⟨Nat.le_of_ble_eq_true rfl, Nat.le_of_ble_eq_true rfl⟩) hS (fun H1 locs1 hI hS => ?_)
    have hs1 := okM_next hrt hrN (msOk.w hs)
    rcases hq1 : nextM (y.2.1 2) n (w, a, b, k, v, f) with ⟨w1, a1, b1, k1, v1, f1⟩
    have hI : hw D (cfM D L (mdX y (w1, a1, b1, k1, v1, f1))) A H1 := by rw [hq1] at hI; exact hI
    rw [hq1] at hs1
    obtain ⟨⟨hs1, hg1, hm1⟩, hw1, hff1, hn1⟩ := hs1
    have hm1 : a ≤ a1 := hm1
    have hg1 : w1 1 1 = w 1 1 := hg1
    have hw1 : w1 = w := hw1
    have hk1 : k1 < 5 := hs1.2.2.2.1
    have hv1 : k1 = 2 → v1 < 1000010 := hs1.2.2.2.2.1
    have hu1 : v1 < 4611686018427387904 := hs1.2.2.2.2.2.1
    have ha1 : a1 ≤ n := hs1.2.1
    have h81 : wN w1 ≤ 8 := (wOk.n hs1.1).2
    rw [show wN w1 = wN w from by rw [hw1]] at h81
    have h9 : wN w1 < 8 := by rw [hw1]; omega
    refine lv_aload_n hx hb dX13_gloveHere_20 rfl (lv_at hl 0 rfl) ?_
    refine lv_iload_n hx hb dX13_gloveHere_21 rfl (lv_at hl 1 rfl) ?_
    refine lv_iconst (v := 0) hx hb dX13_gloveHere_22 (by decide) ?_
    refine c_m (k_V (As := [.int (nI kd), .int 0]) (rest := []) F (k_X13_comes (mdX y (w1, a1, b1, k1, v1, f1)) (by rw [mx_w]; exact hs1.1) (nI kd) 0 (by rw [mx_w]; omega)) (cwV 2 hts (lw_V q1277 q1279 qs53 q107 q1280) rfl rfl rfl (by decide +kernel) ⟨Nat.le_of_ble_eq_true rfl, Nat.le_of_ble_eq_true rfl⟩) hI hK (hw.recv hI hK (mf_main) rfl) rfl hl.1 rfl (Nat.le_of_ble_eq_true rfl) dX13_gloveHere_23 ⟨Nat.le_of_ble_eq_true rfl, Nat.le_of_ble_eq_true rfl⟩) hS (fun H1 locs1 hI hS => ?_)
    rw [mx_w, mx_xs] at hI
    rw [mx_w]
    have hs9 := (okM_add (kd := kd) hs1 (by omega) (by omega)).1
    refine lv_istore_n (lv' := [(2, .int (nI (wN w1))), (0, .ref (L 0)), (1, .int (nI kd))]) hx hb dX13_gloveHere_26 rfl hl (by decide) rfl (fun ls hl => ?_)
    refine lv_aload_n hx hb dX13_gloveHere_27 rfl (lv_at hl 1 rfl) ?_
    refine lv_ldc2 (v := 257) hx hb hown (hts _ q1550) dX13_gloveHere_28 ?_
    refine lv_iload_n hx hb dX13_gloveHere_31 rfl (lv_at hl 0 rfl) ?_
    refine lv_iconst (v := 1) hx hb dX13_gloveHere_32 (by decide) ?_
    refine c_m (k_V (As := [.long 257, .int (nI (wN w1)), .int 1]) (rest := []) F (k_X13_perhaps y n hR (addw w1 (nI kd) 0) a1 b1 k1 v1 f1 hs9 257 (wN w1) 1 6 (by decide) (by omega) (by decide) (mx_l rfl (by decide))) (cwV 3 hts (lw_V q1551 q1553 qs85 q107 q1554) rfl rfl rfl (by decide +kernel) ⟨Nat.le_of_ble_eq_true rfl, Nat.le_of_ble_eq_true rfl⟩) hI hK (hw.recv hI hK (mf_main) rfl) rfl hl.1 rfl (Nat.le_of_ble_eq_true rfl) dX13_gloveHere_33 ⟨Nat.le_of_ble_eq_true rfl, Nat.le_of_ble_eq_true rfl⟩) hS (fun H1 locs1 hI hS => ?_)
    have hs2 := okM_pe hrt hrN hs9 (W := 257) (g := (wN w1)) pOk1
    rcases hq2 : peM (y.2.1 2) n 257 (wN w1) 1 6 (addw w1 (nI kd) 0, a1, b1, k1, v1, f1) with ⟨w2, a2, b2, k2, v2, f2⟩
    have hI : hw D (cfM D L (mdX y (w2, a2, b2, k2, v2, f2))) A H1 := by rw [hq2] at hI; exact hI
    rw [hq2] at hs2
    obtain ⟨hs2, hg2, hm2⟩ := hs2
    have hm2 : a1 ≤ a2 := hm2
    have hg2 : w2 1 1 = (addw w1 (nI kd) 0) 1 1 := hg2
    have hk2 : k2 < 5 := hs2.2.2.2.1
    have hv2 : k2 = 2 → v2 < 1000010 := hs2.2.2.2.2.1
    have hu2 : v2 < 4611686018427387904 := hs2.2.2.2.2.2.1
    have ha2 : a2 ≤ n := hs2.2.1
    have h82 : wN w2 ≤ 8 := (wOk.n hs2.1).2
    refine lv_aload_n hx hb dX13_gloveHere_36 rfl (lv_at hl 1 rfl) ?_
    refine lv_ldc2 (v := 307058) hx hb hown (hts _ q1559) dX13_gloveHere_37 ?_
    refine lv_iload_n hx hb dX13_gloveHere_40 rfl (lv_at hl 0 rfl) ?_
    refine lv_iconst (v := 2) hx hb dX13_gloveHere_41 (by decide) ?_
    refine c_m (k_V (As := [.long 307058, .int (nI (wN w1)), .int 2]) (rest := []) F (k_X13_perhaps y n hR w2 a2 b2 k2 v2 f2 hs2 307058 (wN w1) 2 10 (by decide) (by omega) (by decide) (mx_l rfl (by decide))) (cwV 3 hts (lw_V q1551 q1553 qs85 q107 q1554) rfl rfl rfl (by decide +kernel) ⟨Nat.le_of_ble_eq_true rfl, Nat.le_of_ble_eq_true rfl⟩) hI hK (hw.recv hI hK (mf_main) rfl) rfl hl.1 rfl (Nat.le_of_ble_eq_true rfl) dX13_gloveHere_42 ⟨Nat.le_of_ble_eq_true rfl, Nat.le_of_ble_eq_true rfl⟩) hS (fun H1 locs1 hI hS => ?_)
    have hs3 := okM_pe hrt hrN hs2 (W := 307058) (g := (wN w1)) pOk2
    rcases hq3 : peM (y.2.1 2) n 307058 (wN w1) 2 10 (w2, a2, b2, k2, v2, f2) with ⟨w3, a3, b3, k3, v3, f3⟩
    have hI : hw D (cfM D L (mdX y (w3, a3, b3, k3, v3, f3))) A H1 := by rw [hq3] at hI; exact hI
    rw [hq3] at hs3
    obtain ⟨hs3, hg3, hm3⟩ := hs3
    have hm3 : a2 ≤ a3 := hm3
    have hg3 : w3 1 1 = w2 1 1 := hg3
    have hk3 : k3 < 5 := hs3.2.2.2.1
    have hv3 : k3 = 2 → v3 < 1000010 := hs3.2.2.2.2.1
    have hu3 : v3 < 4611686018427387904 := hs3.2.2.2.2.2.1
    have ha3 : a3 ≤ n := hs3.2.1
    have h83 : wN w3 ≤ 8 := (wOk.n hs3.1).2
    refine lv_aload_n hx hb dX13_gloveHere_45 rfl (lv_at hl 1 rfl) ?_
    refine lv_ldc2 (v := 6132988) hx hb hown (hts _ q1560) dX13_gloveHere_46 ?_
    refine lv_iload_n hx hb dX13_gloveHere_49 rfl (lv_at hl 0 rfl) ?_
    refine lv_iconst (v := 3) hx hb dX13_gloveHere_50 (by decide) ?_
    refine c_m (k_V (As := [.long 6132988, .int (nI (wN w1)), .int 3]) (rest := []) F (k_X13_perhaps y n hR w3 a3 b3 k3 v3 f3 hs3 6132988 (wN w1) 3 65536 (by decide) (by omega) (by decide) (mx_l rfl (by decide))) (cwV 3 hts (lw_V q1551 q1553 qs85 q107 q1554) rfl rfl rfl (by decide +kernel) ⟨Nat.le_of_ble_eq_true rfl, Nat.le_of_ble_eq_true rfl⟩) hI hK (hw.recv hI hK (mf_main) rfl) rfl hl.1 rfl (Nat.le_of_ble_eq_true rfl) dX13_gloveHere_51 ⟨Nat.le_of_ble_eq_true rfl, Nat.le_of_ble_eq_true rfl⟩) hS (fun H1 locs1 hI hS => ?_)
    have hs4 := okM_pe hrt hrN hs3 (W := 6132988) (g := (wN w1)) pOk3
    rcases hq4 : peM (y.2.1 2) n 6132988 (wN w1) 3 65536 (w3, a3, b3, k3, v3, f3) with ⟨w4, a4, b4, k4, v4, f4⟩
    have hI : hw D (cfM D L (mdX y (w4, a4, b4, k4, v4, f4))) A H1 := by rw [hq4] at hI; exact hI
    rw [hq4] at hs4
    obtain ⟨hs4, hg4, hm4⟩ := hs4
    have hm4 : a3 ≤ a4 := hm4
    have hg4 : w4 1 1 = w3 1 1 := hg4
    have hk4 : k4 < 5 := hs4.2.2.2.1
    have hv4 : k4 = 2 → v4 < 1000010 := hs4.2.2.2.2.1
    have hu4 : v4 < 4611686018427387904 := hs4.2.2.2.2.2.1
    have ha4 : a4 ≤ n := hs4.2.1
    have h84 : wN w4 ≤ 8 := (wOk.n hs4.1).2
    refine lv_aload_n hx hb dX13_gloveHere_54 rfl (lv_at hl 1 rfl) ?_
    refine lv_ldc2 (v := 242911) hx hb hown (hts _ q1561) dX13_gloveHere_55 ?_
    refine lv_iload_n hx hb dX13_gloveHere_58 rfl (lv_at hl 0 rfl) ?_
    refine lv_iconst (v := 4) hx hb dX13_gloveHere_59 (by decide) ?_
    refine c_m (k_V (As := [.long 242911, .int (nI (wN w1)), .int 4]) (rest := []) F (k_X13_perhaps y n hR w4 a4 b4 k4 v4 f4 hs4 242911 (wN w1) 4 10000 (by decide) (by omega) (by decide) (mx_l rfl (by decide))) (cwV 3 hts (lw_V q1551 q1553 qs85 q107 q1554) rfl rfl rfl (by decide +kernel) ⟨Nat.le_of_ble_eq_true rfl, Nat.le_of_ble_eq_true rfl⟩) hI hK (hw.recv hI hK (mf_main) rfl) rfl hl.1 rfl (Nat.le_of_ble_eq_true rfl) dX13_gloveHere_60 ⟨Nat.le_of_ble_eq_true rfl, Nat.le_of_ble_eq_true rfl⟩) hS (fun H1 locs1 hI hS => ?_)
    have hs5 := okM_pe hrt hrN hs4 (W := 242911) (g := (wN w1)) pOk4
    rcases hq5 : peM (y.2.1 2) n 242911 (wN w1) 4 10000 (w4, a4, b4, k4, v4, f4) with ⟨w5, a5, b5, k5, v5, f5⟩
    have hI : hw D (cfM D L (mdX y (w5, a5, b5, k5, v5, f5))) A H1 := by rw [hq5] at hI; exact hI
    rw [hq5] at hs5
    obtain ⟨hs5, hg5, hm5⟩ := hs5
    have hm5 : a4 ≤ a5 := hm5
    have hg5 : w5 1 1 = w4 1 1 := hg5
    have hk5 : k5 < 5 := hs5.2.2.2.1
    have hv5 : k5 = 2 → v5 < 1000010 := hs5.2.2.2.2.1
    have hu5 : v5 < 4611686018427387904 := hs5.2.2.2.2.2.1
    have ha5 : a5 ≤ n := hs5.2.1
    have h85 : wN w5 ≤ 8 := (wOk.n hs5.1).2
    exact W.vret hx hb hr (fun t ht _ => ⟨rfl, by rw [ht]; exact hw_eq hI (congrArg (fun z => cfM D L (mdX y z)) (by first | (rw [show glM (y.2.1 2) n kd (w, a, b, k, v, f) = wrM (w, a, b, k, v, f) from if_pos c_8, hq1, hq2, hq3, hq4, hq5]; done) | (rw [show glM (y.2.1 2) n kd (w, a, b, k, v, f) = gl2 (y.2.1 2) n kd (nextM (y.2.1 2) n (w, a, b, k, v, f)) from if_neg c_8]; simp only [gl2, hq1, hq2, hq3, hq4, hq5]))), hS.F ht⟩) hS.2.2 dX13_gloveHere_63
  · skip
    have c_8 : wN w = 8 := (neq (a := wN w) (b := 8) (rfl) (rfl) (by omega) (by omega)).mp c_8
    refine lv_aload_n hx hb dX13_gloveHere_11 rfl (lv_at hl 0 rfl) ?_
    refine c_m (k_V (As := []) (rest := []) F (k_X13_wrongHere y n hR w a b k v f hs) (cwV 0 hts (lw_V q1546 q1548 qs84 q107 q1549) rfl rfl rfl (by decide +kernel) ⟨Nat.le_of_ble_eq_true rfl, Nat.le_of_ble_eq_true rfl⟩) hI hK (hw.recv hI hK (mf_main) rfl) rfl hl.1 rfl (Nat.le_of_ble_eq_true rfl) dX13_gloveHere_12 ⟨Nat.le_of_ble_eq_true rfl, Nat.le_of_ble_eq_true rfl⟩) hS (fun H1 locs1 hI hS => ?_)
    have hs6 := okM_wr hs
    rcases hq6 : wrM (w, a, b, k, v, f) with ⟨w6, a6, b6, k6, v6, f6⟩
    have hI : hw D (cfM D L (mdX y (w6, a6, b6, k6, v6, f6))) A H1 := by rw [hq6] at hI; exact hI
    rw [hq6] at hs6
    obtain ⟨⟨hs6, hg6, hm6⟩, hw6⟩ := hs6
    have hm6 : a ≤ a6 := hm6
    have hg6 : w6 1 1 = w 1 1 := hg6
    have hw6 : w6 = w := hw6
    have hk6 : k6 < 5 := hs6.2.2.2.1
    have hv6 : k6 = 2 → v6 < 1000010 := hs6.2.2.2.2.1
    have hu6 : v6 < 4611686018427387904 := hs6.2.2.2.2.2.1
    have ha6 : a6 ≤ n := hs6.2.1
    have h86 : wN w6 ≤ 8 := (wOk.n hs6.1).2
    exact W.vret hx hb hr (fun t ht _ => ⟨rfl, by rw [ht]; exact hw_eq hI (congrArg (fun z => cfM D L (mdX y z)) (by first | (rw [show glM (y.2.1 2) n kd (w, a, b, k, v, f) = wrM (w, a, b, k, v, f) from if_pos c_8, hq6]; done) | (rw [show glM (y.2.1 2) n kd (w, a, b, k, v, f) = gl2 (y.2.1 2) n kd (nextM (y.2.1 2) n (w, a, b, k, v, f)) from if_neg c_8]; simp only [gl2, hq6]))), hS.F ht⟩) hS.2.2 dX13_gloveHere_15
theorem k_X13_saidHere {l : Launch} {D : va_G} {L : Nat → Nat} {A : Nat → Prop} (y : mst) (n : Nat) (hR : rOkM y n) (w : wd) (a b k v : Nat) (f : Option Nat) (hs : msOk n (w, a, b, k, v, f)) : Met l yX13_saidHere (ws_ yX13_saidHere cX13_saidHere 5 none) ({ frames := 3, cells := 0, slots := 0, locals := 64 } : Room) (va_Pc [.ref (L 0)] (pI D (cfM D L (mdX y (w, a, b, k, v, f))) A)) (nQ D (cfM D L (mdX y (saM (y.2.1 2) n (w, a, b, k, v, f)))) A none) 0 0 A := by
  refine met_I (by decide) rfl (Nat.le_of_ble_eq_true rfl) ?_
  intro p e s m below meth c ls hx hb hr hml hown hts hlocks hl hI hK
  have F : CallFix p m c cX13_saidHere 5 s _ lw_all RX13 := ⟨hx, hb, hml, hown, hts⟩
  have hl : lv_has ls 5 [(0, .ref (L 0))] := hl
  have hS : va_S A s.heap s.heap [] := va_S.rf
  obtain ⟨hrn, hrN, hrt⟩ := id hR
  obtain ⟨ho0, ha0, hb0, hk0, hv0, hu0, hf0⟩ : wOk w ∧ a ≤ n ∧ b ≤ 120 ∧ k < 5 ∧ (k = 2 → v < 1000010) ∧ v < 4611686018427387904 ∧ (∀ b, f = some b → b ≤ 120) := ⟨hs.1, hs.2.1, hs.2.2.1, hs.2.2.2.1, hs.2.2.2.2.1, hs.2.2.2.2.2.1, hs.2.2.2.2.2.2⟩
  refine lv_aload_n hx hb dX13_saidHere_0 rfl (lv_at hl 0 rfl) ?_
  refine c_m (k_V (As := []) (rest := []) F (k_X13_next y n hR w a b k v f (msOk.w hs)) (cwV 0 hts (lw_V q1505 q1507 qs78 q107 q1508) rfl rfl rfl (by decide +kernel) ⟨Nat.le_of_ble_eq_true rfl, Nat.le_of_ble_eq_true rfl⟩) hI hK (hw.recv hI hK (mf_main) rfl) rfl hl.1 rfl (Nat.le_of_ble_eq_true rfl) dX13_saidHere_1 ⟨Nat.le_of_ble_eq_true rfl, Nat.le_of_ble_eq_true rfl⟩) hS (fun H1 locs1 hI hS => ?_)
  have hs1 := okM_next hrt hrN (msOk.w hs)
  rcases hq1 : nextM (y.2.1 2) n (w, a, b, k, v, f) with ⟨w1, a1, b1, k1, v1, f1⟩
  have hI : hw D (cfM D L (mdX y (w1, a1, b1, k1, v1, f1))) A H1 := by rw [hq1] at hI; exact hI
  rw [hq1] at hs1
  obtain ⟨⟨hs1, hg1, hm1⟩, hw1, hff1, hn1⟩ := hs1
  have hm1 : a ≤ a1 := hm1
  have hg1 : w1 1 1 = w 1 1 := hg1
  have hw1 : w1 = w := hw1
  have hk1 : k1 < 5 := hs1.2.2.2.1
  have hv1 : k1 = 2 → v1 < 1000010 := hs1.2.2.2.2.1
  have hu1 : v1 < 4611686018427387904 := hs1.2.2.2.2.2.1
  have ha1 : a1 ≤ n := hs1.2.1
  have h81 : wN w1 ≤ 8 := (wOk.n hs1.1).2
  refine lv_aload_n hx hb dX13_saidHere_4 rfl (lv_at hl 0 rfl) ?_
  refine lv_iconst (v := 5) hx hb dX13_saidHere_5 (by decide) ?_
  refine c_m (k_V (As := [.int 5]) (rest := []) F (k_X13_numberHere y n hR w1 a1 b1 k1 v1 f1 hs1 5 6 (mx_l rfl (by decide))) (cwV 1 hts (lw_V q1555 q1557 qs86 q107 q1558) rfl rfl rfl (by decide +kernel) ⟨Nat.le_of_ble_eq_true rfl, Nat.le_of_ble_eq_true rfl⟩) hI hK (hw.recv hI hK (mf_main) rfl) rfl hl.1 rfl (Nat.le_of_ble_eq_true rfl) dX13_saidHere_6 ⟨Nat.le_of_ble_eq_true rfl, Nat.le_of_ble_eq_true rfl⟩) hS (fun H1 locs1 hI hS => ?_)
  have hs2 := okM_nu hrt hrN hs1 (h := 6)
  rcases hq2 : nuM (y.2.1 2) n 6 (w1, a1, b1, k1, v1, f1) with ⟨z2, w2, a2, b2, k2, v2, f2⟩
  have hI : hw D (cfM D L (mdX y (w2, a2, b2, k2, v2, f2))) A H1 := by rw [hq2] at hI; exact hI
  rw [hq2] at hs2
  obtain ⟨⟨hs2, hg2, hm2⟩, hw2, hz2⟩ := hs2
  have hz2 : z2 = 0 ∨ z2 < _ := hz2
  have hm2 : a1 ≤ a2 := hm2
  have hg2 : w2 1 1 = w1 1 1 := hg2
  have hw2 : w2 = w1 := hw2
  have hk2 : k2 < 5 := hs2.2.2.2.1
  have hv2 : k2 = 2 → v2 < 1000010 := hs2.2.2.2.2.1
  have hu2 : v2 < 4611686018427387904 := hs2.2.2.2.2.2.1
  have ha2 : a2 ≤ n := hs2.2.1
  have h82 : wN w2 ≤ 8 := (wOk.n hs2.1).2
  refine lv_istore_n (lv' := [(1, .int (nI z2)), (0, .ref (L 0))]) hx hb dX13_saidHere_9 rfl hl (by decide) rfl (fun ls hl => ?_)
  refine lv_aload_n hx hb dX13_saidHere_10 rfl (lv_at hl 1 rfl) ?_
  refine r_get (v := .int (fI f2)) (C := RX13) (T := TX13) (N := 18) hx hb hts in_X13 hown hK hI (mf_main) rfl 13 (by decide) (hts _ q1177) (fun _ h => h) (rdv (mx_5 y w2 a2 b2 k2 v2 f2)) dX13_saidHere_11 ?_
  refine lv_if_ge (tgt := 25) hx hb dX13_saidHere_14 (by decide) (fun c_14 => ?_) (fun c_14 => ?_)
  · skip
    have c_14 := Int32.not_lt.mpr c_14
    have hf_14 : ¬ f2 = none := fun z => c_14 ((fI_lt hs2.2.2.2.2.2.2).mpr z)
    refine lv_iconst (v := 0) hx hb dX13_saidHere_25 (by decide) ?_
    refine lv_istore_n (lv' := [(2, .int 0), (1, .int (nI z2)), (0, .ref (L 0))]) hx hb dX13_saidHere_26 rfl hl (by decide) rfl (fun ls hl => ?_)
    refine lv_aload_n hx hb dX13_saidHere_27 rfl (lv_at hl 2 rfl) ?_
    refine r_get (v := .int (fI f2)) (C := RX13) (T := TX13) (N := 18) hx hb hts in_X13 hown hK hI (mf_main) rfl 13 (by decide) (hts _ q1177) (fun _ h => h) (rdv (mx_5 y w2 a2 b2 k2 v2 f2)) dX13_saidHere_28 ?_
    refine lv_if_ge (tgt := 43) hx hb dX13_saidHere_31 (by decide) (fun c_31 => ?_) (fun c_31 => ?_)
    · skip
      have c_31 := Int32.not_lt.mpr c_31
      have hf_31 : ¬ f2 = none := fun z => c_31 ((fI_lt hs2.2.2.2.2.2.2).mpr z)
      refine lv_iconst (v := 0) hx hb dX13_saidHere_43 (by decide) ?_
      refine lv_istore_n (lv' := [(3, .int 0), (2, .int 0), (1, .int (nI z2)), (0, .ref (L 0))]) hx hb dX13_saidHere_44 rfl hl (by decide) rfl (fun ls hl => ?_)
      refine lv_aload_n hx hb dX13_saidHere_45 rfl (lv_at hl 3 rfl) ?_
      refine r_get (v := .int (fI f2)) (C := RX13) (T := TX13) (N := 18) hx hb hts in_X13 hown hK hI (mf_main) rfl 13 (by decide) (hts _ q1177) (fun _ h => h) (rdv (mx_5 y w2 a2 b2 k2 v2 f2)) dX13_saidHere_46 ?_
      refine lv_if_ge (tgt := 61) hx hb dX13_saidHere_49 (by decide) (fun c_49 => ?_) (fun c_49 => ?_)
      · skip
        have c_49 := Int32.not_lt.mpr c_49
        have hf_49 : ¬ f2 = none := fun z => c_49 ((fI_lt hs2.2.2.2.2.2.2).mpr z)
        refine lv_iconst (v := 0) hx hb dX13_saidHere_61 (by decide) ?_
        refine lv_istore (lv' := [(4, .int 0), (3, .int 0), (2, .int 0), (1, .int (nI z2)), (0, .ref (L 0))]) hx hb dX13_saidHere_62 hl (by decide) rfl (fun ls hl => ?_)
        refine lv_aload_n hx hb dX13_saidHere_64 rfl (lv_at hl 4 rfl) ?_
        refine r_get (v := .int (fI f2)) (C := RX13) (T := TX13) (N := 18) hx hb hts in_X13 hown hK hI (mf_main) rfl 13 (by decide) (hts _ q1177) (fun _ h => h) (rdv (mx_5 y w2 a2 b2 k2 v2 f2)) dX13_saidHere_65 ?_
        refine lv_if_ge (tgt := 92) hx hb dX13_saidHere_68 (by decide) (fun c_68 => ?_) (fun c_68 => ?_)
        · skip
          have c_68 := Int32.not_lt.mpr c_68
          have hf_68 : ¬ f2 = none := fun z => c_68 ((fI_lt hs2.2.2.2.2.2.2).mpr z)
          exact W.vret hx hb hr (fun t ht _ => ⟨rfl, by rw [ht]; exact hw_eq hI (congrArg (fun z => cfM D L (mdX y z)) (by first | (simp only [saM, sa1, sa2, hq1, hq2, nug_n hf_14, nug_n hf_31, nug_n hf_49, nug_n hf_68, if_neg hf_14, if_neg hf_31, if_neg hf_49, if_neg hf_68]; done) | (simp only [saM, sa1, sa2, hq1, hq2, nug_n hf_14, nug_n hf_31, nug_n hf_49, nug_n hf_68, if_neg hf_14, if_neg hf_31, if_neg hf_49, if_neg hf_68]; rw [eV9]; done) | (simp only [saM, sa1, sa2, hq1, hq2, nug_n hf_14, nug_n hf_31, nug_n hf_49, nug_n hf_68, if_neg hf_14, if_neg hf_31, if_neg hf_49, if_neg hf_68]; rw [eV9]; rfl))), hS.F ht⟩) hS.2.2 dX13_saidHere_92
        · skip
          have c_68 := Int32.not_le.mp c_68
          have hf_68 : f2 = none := (fI_lt hs2.2.2.2.2.2.2).mp c_68
          exact absurd hf_68 hf_49
      · skip
        have c_49 := Int32.not_le.mp c_49
        have hf_49 : f2 = none := (fI_lt hs2.2.2.2.2.2.2).mp c_49
        exact absurd hf_49 hf_31
    · skip
      have c_31 := Int32.not_le.mp c_31
      have hf_31 : f2 = none := (fI_lt hs2.2.2.2.2.2.2).mp c_31
      exact absurd hf_31 hf_14
  · skip
    have c_14 := Int32.not_le.mp c_14
    have hf_14 : f2 = none := (fI_lt hs2.2.2.2.2.2.2).mp c_14
    refine lv_aload_n hx hb dX13_saidHere_17 rfl (lv_at hl 1 rfl) ?_
    refine lv_iconst (v := 5) hx hb dX13_saidHere_18 (by decide) ?_
    refine c_m (k_V (As := [.int 5]) (rest := []) F (k_X13_numberHere y n hR w2 a2 b2 k2 v2 f2 hs2 5 6 (mx_l rfl (by decide))) (cwV 1 hts (lw_V q1555 q1557 qs86 q107 q1558) rfl rfl rfl (by decide +kernel) ⟨Nat.le_of_ble_eq_true rfl, Nat.le_of_ble_eq_true rfl⟩) hI hK (hw.recv hI hK (mf_main) rfl) rfl hl.1 rfl (Nat.le_of_ble_eq_true rfl) dX13_saidHere_19 ⟨Nat.le_of_ble_eq_true rfl, Nat.le_of_ble_eq_true rfl⟩) hS (fun H1 locs1 hI hS => ?_)
    have hs3 := okM_nu hrt hrN hs2 (h := 6)
    rcases hq3 : nuM (y.2.1 2) n 6 (w2, a2, b2, k2, v2, f2) with ⟨z3, w3, a3, b3, k3, v3, f3⟩
    have hI : hw D (cfM D L (mdX y (w3, a3, b3, k3, v3, f3))) A H1 := by rw [hq3] at hI; exact hI
    rw [hq3] at hs3
    obtain ⟨⟨hs3, hg3, hm3⟩, hw3, hz3⟩ := hs3
    have hz3 : z3 = 0 ∨ z3 < _ := hz3
    have hm3 : a2 ≤ a3 := hm3
    have hg3 : w3 1 1 = w2 1 1 := hg3
    have hw3 : w3 = w2 := hw3
    have hk3 : k3 < 5 := hs3.2.2.2.1
    have hv3 : k3 = 2 → v3 < 1000010 := hs3.2.2.2.2.1
    have hu3 : v3 < 4611686018427387904 := hs3.2.2.2.2.2.1
    have ha3 : a3 ≤ n := hs3.2.1
    have h83 : wN w3 ≤ 8 := (wOk.n hs3.1).2
    refine lv_goto (tgt := 26) hx hb dX13_saidHere_22 (by decide) ?_
    refine lv_istore_n (lv' := [(2, .int (nI z3)), (1, .int (nI z2)), (0, .ref (L 0))]) hx hb dX13_saidHere_26 rfl hl (by decide) rfl (fun ls hl => ?_)
    refine lv_aload_n hx hb dX13_saidHere_27 rfl (lv_at hl 2 rfl) ?_
    refine r_get (v := .int (fI f3)) (C := RX13) (T := TX13) (N := 18) hx hb hts in_X13 hown hK hI (mf_main) rfl 13 (by decide) (hts _ q1177) (fun _ h => h) (rdv (mx_5 y w3 a3 b3 k3 v3 f3)) dX13_saidHere_28 ?_
    refine lv_if_ge (tgt := 43) hx hb dX13_saidHere_31 (by decide) (fun c_31 => ?_) (fun c_31 => ?_)
    · skip
      have c_31 := Int32.not_lt.mpr c_31
      have hf_31 : ¬ f3 = none := fun z => c_31 ((fI_lt hs3.2.2.2.2.2.2).mpr z)
      refine lv_iconst (v := 0) hx hb dX13_saidHere_43 (by decide) ?_
      refine lv_istore_n (lv' := [(3, .int 0), (2, .int (nI z3)), (1, .int (nI z2)), (0, .ref (L 0))]) hx hb dX13_saidHere_44 rfl hl (by decide) rfl (fun ls hl => ?_)
      refine lv_aload_n hx hb dX13_saidHere_45 rfl (lv_at hl 3 rfl) ?_
      refine r_get (v := .int (fI f3)) (C := RX13) (T := TX13) (N := 18) hx hb hts in_X13 hown hK hI (mf_main) rfl 13 (by decide) (hts _ q1177) (fun _ h => h) (rdv (mx_5 y w3 a3 b3 k3 v3 f3)) dX13_saidHere_46 ?_
      refine lv_if_ge (tgt := 61) hx hb dX13_saidHere_49 (by decide) (fun c_49 => ?_) (fun c_49 => ?_)
      · skip
        have c_49 := Int32.not_lt.mpr c_49
        have hf_49 : ¬ f3 = none := fun z => c_49 ((fI_lt hs3.2.2.2.2.2.2).mpr z)
        refine lv_iconst (v := 0) hx hb dX13_saidHere_61 (by decide) ?_
        refine lv_istore (lv' := [(4, .int 0), (3, .int 0), (2, .int (nI z3)), (1, .int (nI z2)), (0, .ref (L 0))]) hx hb dX13_saidHere_62 hl (by decide) rfl (fun ls hl => ?_)
        refine lv_aload_n hx hb dX13_saidHere_64 rfl (lv_at hl 4 rfl) ?_
        refine r_get (v := .int (fI f3)) (C := RX13) (T := TX13) (N := 18) hx hb hts in_X13 hown hK hI (mf_main) rfl 13 (by decide) (hts _ q1177) (fun _ h => h) (rdv (mx_5 y w3 a3 b3 k3 v3 f3)) dX13_saidHere_65 ?_
        refine lv_if_ge (tgt := 92) hx hb dX13_saidHere_68 (by decide) (fun c_68 => ?_) (fun c_68 => ?_)
        · skip
          have c_68 := Int32.not_lt.mpr c_68
          have hf_68 : ¬ f3 = none := fun z => c_68 ((fI_lt hs3.2.2.2.2.2.2).mpr z)
          exact W.vret hx hb hr (fun t ht _ => ⟨rfl, by rw [ht]; exact hw_eq hI (congrArg (fun z => cfM D L (mdX y z)) (by first | (simp only [saM, sa1, sa2, hq1, hq2, hq3, nug_y hf_14, nug_n hf_31, nug_n hf_49, nug_n hf_68, if_pos hf_14, if_neg hf_31, if_neg hf_49, if_neg hf_68]; done) | (simp only [saM, sa1, sa2, hq1, hq2, hq3, nug_y hf_14, nug_n hf_31, nug_n hf_49, nug_n hf_68, if_pos hf_14, if_neg hf_31, if_neg hf_49, if_neg hf_68]; rw [eV9]; done) | (simp only [saM, sa1, sa2, hq1, hq2, hq3, nug_y hf_14, nug_n hf_31, nug_n hf_49, nug_n hf_68, if_pos hf_14, if_neg hf_31, if_neg hf_49, if_neg hf_68]; rw [eV9]; rfl))), hS.F ht⟩) hS.2.2 dX13_saidHere_92
        · skip
          have c_68 := Int32.not_le.mp c_68
          have hf_68 : f3 = none := (fI_lt hs3.2.2.2.2.2.2).mp c_68
          exact absurd hf_68 hf_49
      · skip
        have c_49 := Int32.not_le.mp c_49
        have hf_49 : f3 = none := (fI_lt hs3.2.2.2.2.2.2).mp c_49
        exact absurd hf_49 hf_31
    · skip
      have c_31 := Int32.not_le.mp c_31
      have hf_31 : f3 = none := (fI_lt hs3.2.2.2.2.2.2).mp c_31
      refine lv_aload_n hx hb dX13_saidHere_34 rfl (lv_at hl 2 rfl) ?_
      refine lv_bipush (v := 15) hx hb dX13_saidHere_35 (by decide) ?_
      refine c_m (k_V (As := [.int 15]) (rest := []) F (k_X13_numberHere y n hR w3 a3 b3 k3 v3 f3 hs3 15 16 (mx_l rfl (by decide))) (cwV 1 hts (lw_V q1555 q1557 qs86 q107 q1558) rfl rfl rfl (by decide +kernel) ⟨Nat.le_of_ble_eq_true rfl, Nat.le_of_ble_eq_true rfl⟩) hI hK (hw.recv hI hK (mf_main) rfl) rfl hl.1 rfl (Nat.le_of_ble_eq_true rfl) dX13_saidHere_37 ⟨Nat.le_of_ble_eq_true rfl, Nat.le_of_ble_eq_true rfl⟩) hS (fun H1 locs1 hI hS => ?_)
      have hs4 := okM_nu hrt hrN hs3 (h := 16)
      rcases hq4 : nuM (y.2.1 2) n 16 (w3, a3, b3, k3, v3, f3) with ⟨z4, w4, a4, b4, k4, v4, f4⟩
      have hI : hw D (cfM D L (mdX y (w4, a4, b4, k4, v4, f4))) A H1 := by rw [hq4] at hI; exact hI
      rw [hq4] at hs4
      obtain ⟨⟨hs4, hg4, hm4⟩, hw4, hz4⟩ := hs4
      have hz4 : z4 = 0 ∨ z4 < _ := hz4
      have hm4 : a3 ≤ a4 := hm4
      have hg4 : w4 1 1 = w3 1 1 := hg4
      have hw4 : w4 = w3 := hw4
      have hk4 : k4 < 5 := hs4.2.2.2.1
      have hv4 : k4 = 2 → v4 < 1000010 := hs4.2.2.2.2.1
      have hu4 : v4 < 4611686018427387904 := hs4.2.2.2.2.2.1
      have ha4 : a4 ≤ n := hs4.2.1
      have h84 : wN w4 ≤ 8 := (wOk.n hs4.1).2
      refine lv_goto (tgt := 44) hx hb dX13_saidHere_40 (by decide) ?_
      refine lv_istore_n (lv' := [(3, .int (nI z4)), (2, .int (nI z3)), (1, .int (nI z2)), (0, .ref (L 0))]) hx hb dX13_saidHere_44 rfl hl (by decide) rfl (fun ls hl => ?_)
      refine lv_aload_n hx hb dX13_saidHere_45 rfl (lv_at hl 3 rfl) ?_
      refine r_get (v := .int (fI f4)) (C := RX13) (T := TX13) (N := 18) hx hb hts in_X13 hown hK hI (mf_main) rfl 13 (by decide) (hts _ q1177) (fun _ h => h) (rdv (mx_5 y w4 a4 b4 k4 v4 f4)) dX13_saidHere_46 ?_
      refine lv_if_ge (tgt := 61) hx hb dX13_saidHere_49 (by decide) (fun c_49 => ?_) (fun c_49 => ?_)
      · skip
        have c_49 := Int32.not_lt.mpr c_49
        have hf_49 : ¬ f4 = none := fun z => c_49 ((fI_lt hs4.2.2.2.2.2.2).mpr z)
        refine lv_iconst (v := 0) hx hb dX13_saidHere_61 (by decide) ?_
        refine lv_istore (lv' := [(4, .int 0), (3, .int (nI z4)), (2, .int (nI z3)), (1, .int (nI z2)), (0, .ref (L 0))]) hx hb dX13_saidHere_62 hl (by decide) rfl (fun ls hl => ?_)
        refine lv_aload_n hx hb dX13_saidHere_64 rfl (lv_at hl 4 rfl) ?_
        refine r_get (v := .int (fI f4)) (C := RX13) (T := TX13) (N := 18) hx hb hts in_X13 hown hK hI (mf_main) rfl 13 (by decide) (hts _ q1177) (fun _ h => h) (rdv (mx_5 y w4 a4 b4 k4 v4 f4)) dX13_saidHere_65 ?_
        refine lv_if_ge (tgt := 92) hx hb dX13_saidHere_68 (by decide) (fun c_68 => ?_) (fun c_68 => ?_)
        · skip
          have c_68 := Int32.not_lt.mpr c_68
          have hf_68 : ¬ f4 = none := fun z => c_68 ((fI_lt hs4.2.2.2.2.2.2).mpr z)
          exact W.vret hx hb hr (fun t ht _ => ⟨rfl, by rw [ht]; exact hw_eq hI (congrArg (fun z => cfM D L (mdX y z)) (by first | (simp only [saM, sa1, sa2, hq1, hq2, hq3, hq4, nug_y hf_14, nug_y hf_31, nug_n hf_49, nug_n hf_68, if_pos hf_14, if_pos hf_31, if_neg hf_49, if_neg hf_68]; done) | (simp only [saM, sa1, sa2, hq1, hq2, hq3, hq4, nug_y hf_14, nug_y hf_31, nug_n hf_49, nug_n hf_68, if_pos hf_14, if_pos hf_31, if_neg hf_49, if_neg hf_68]; rw [eV9]; done) | (simp only [saM, sa1, sa2, hq1, hq2, hq3, hq4, nug_y hf_14, nug_y hf_31, nug_n hf_49, nug_n hf_68, if_pos hf_14, if_pos hf_31, if_neg hf_49, if_neg hf_68]; rw [eV9]; rfl))), hS.F ht⟩) hS.2.2 dX13_saidHere_92
        · skip
          have c_68 := Int32.not_le.mp c_68
          have hf_68 : f4 = none := (fI_lt hs4.2.2.2.2.2.2).mp c_68
          exact absurd hf_68 hf_49
      · skip
        have c_49 := Int32.not_le.mp c_49
        have hf_49 : f4 = none := (fI_lt hs4.2.2.2.2.2.2).mp c_49
        refine lv_aload_n hx hb dX13_saidHere_52 rfl (lv_at hl 3 rfl) ?_
        refine lv_bipush (v := 9) hx hb dX13_saidHere_53 (by decide) ?_
        refine c_m (k_V (As := [.int 9]) (rest := []) F (k_X13_numberHere y n hR w4 a4 b4 k4 v4 f4 hs4 9 10 (mx_l rfl (by decide))) (cwV 1 hts (lw_V q1555 q1557 qs86 q107 q1558) rfl rfl rfl (by decide +kernel) ⟨Nat.le_of_ble_eq_true rfl, Nat.le_of_ble_eq_true rfl⟩) hI hK (hw.recv hI hK (mf_main) rfl) rfl hl.1 rfl (Nat.le_of_ble_eq_true rfl) dX13_saidHere_55 ⟨Nat.le_of_ble_eq_true rfl, Nat.le_of_ble_eq_true rfl⟩) hS (fun H1 locs1 hI hS => ?_)
        have hs5 := okM_nu hrt hrN hs4 (h := 10)
        rcases hq5 : nuM (y.2.1 2) n 10 (w4, a4, b4, k4, v4, f4) with ⟨z5, w5, a5, b5, k5, v5, f5⟩
        have hI : hw D (cfM D L (mdX y (w5, a5, b5, k5, v5, f5))) A H1 := by rw [hq5] at hI; exact hI
        rw [hq5] at hs5
        obtain ⟨⟨hs5, hg5, hm5⟩, hw5, hz5⟩ := hs5
        have hz5 : z5 = 0 ∨ z5 < _ := hz5
        have hm5 : a4 ≤ a5 := hm5
        have hg5 : w5 1 1 = w4 1 1 := hg5
        have hw5 : w5 = w4 := hw5
        have hk5 : k5 < 5 := hs5.2.2.2.1
        have hv5 : k5 = 2 → v5 < 1000010 := hs5.2.2.2.2.1
        have hu5 : v5 < 4611686018427387904 := hs5.2.2.2.2.2.1
        have ha5 : a5 ≤ n := hs5.2.1
        have h85 : wN w5 ≤ 8 := (wOk.n hs5.1).2
        refine lv_goto (tgt := 62) hx hb dX13_saidHere_58 (by decide) ?_
        refine lv_istore (lv' := [(4, .int (nI z5)), (3, .int (nI z4)), (2, .int (nI z3)), (1, .int (nI z2)), (0, .ref (L 0))]) hx hb dX13_saidHere_62 hl (by decide) rfl (fun ls hl => ?_)
        refine lv_aload_n hx hb dX13_saidHere_64 rfl (lv_at hl 4 rfl) ?_
        refine r_get (v := .int (fI f5)) (C := RX13) (T := TX13) (N := 18) hx hb hts in_X13 hown hK hI (mf_main) rfl 13 (by decide) (hts _ q1177) (fun _ h => h) (rdv (mx_5 y w5 a5 b5 k5 v5 f5)) dX13_saidHere_65 ?_
        refine lv_if_ge (tgt := 92) hx hb dX13_saidHere_68 (by decide) (fun c_68 => ?_) (fun c_68 => ?_)
        · skip
          have c_68 := Int32.not_lt.mpr c_68
          have hf_68 : ¬ f5 = none := fun z => c_68 ((fI_lt hs5.2.2.2.2.2.2).mpr z)
          exact W.vret hx hb hr (fun t ht _ => ⟨rfl, by rw [ht]; exact hw_eq hI (congrArg (fun z => cfM D L (mdX y z)) (by first | (simp only [saM, sa1, sa2, hq1, hq2, hq3, hq4, hq5, nug_y hf_14, nug_y hf_31, nug_y hf_49, nug_n hf_68, if_pos hf_14, if_pos hf_31, if_pos hf_49, if_neg hf_68]; done) | (simp only [saM, sa1, sa2, hq1, hq2, hq3, hq4, hq5, nug_y hf_14, nug_y hf_31, nug_y hf_49, nug_n hf_68, if_pos hf_14, if_pos hf_31, if_pos hf_49, if_neg hf_68]; rw [eV9]; done) | (simp only [saM, sa1, sa2, hq1, hq2, hq3, hq4, hq5, nug_y hf_14, nug_y hf_31, nug_y hf_49, nug_n hf_68, if_pos hf_14, if_pos hf_31, if_pos hf_49, if_neg hf_68]; rw [eV9]; rfl))), hS.F ht⟩) hS.2.2 dX13_saidHere_92
        · skip
          have c_68 := Int32.not_le.mp c_68
          have hf_68 : f5 = none := (fI_lt hs5.2.2.2.2.2.2).mp c_68
          refine lv_aload_n hx hb dX13_saidHere_71 rfl (lv_at hl 4 rfl) ?_
          refine r_get (C := RX13) (T := TX13) (N := 18) hx hb hts in_X13 hown hK hI (mf_main) rfl 0 (by decide) (hts _ q1164) (fun _ h => h) rfl dX13_saidHere_72 ?_
          refine lv_iconst (v := 3) hx hb dX13_saidHere_75 (by decide) ?_
          refine lv_iload_n hx hb dX13_saidHere_76 rfl (lv_at hl 3 rfl) ?_
          refine lv_iadd hx hb dX13_saidHere_77 ?_
          refine lv_sipush (v := 1000) hx hb dX13_saidHere_78 (by decide) ?_
          refine lv_iload_n hx hb dX13_saidHere_81 rfl (lv_at hl 2 rfl) ?_
          refine lv_imul hx hb dX13_saidHere_82 ?_
          refine lv_bipush (v := 10) hx hb dX13_saidHere_83 (by decide) ?_
          refine lv_iload_n hx hb dX13_saidHere_85 rfl (lv_at hl 1 rfl) ?_
          refine lv_imul hx hb dX13_saidHere_86 ?_
          refine lv_iadd hx hb dX13_saidHere_87 ?_
          refine lv_iload hx hb dX13_saidHere_88 (lv_at hl 0 rfl) ?_
          refine lv_iadd hx hb dX13_saidHere_90 ?_
          obtain ⟨V9, eV9⟩ : ∃ z, z = syI (nI z3) (nI z4) (nI z5) := ⟨_, rfl⟩
          rw [show ((((1000 : Int32) * (nI z3)) + ((10 : Int32) * (nI z4))) + (nI z5)) = V9 from eV9.symm]
          obtain ⟨x8, ex8⟩ : ∃ z, z = mdX y (w5, a5, b5, k5, v5, f5) := ⟨_, rfl⟩
          rw [← ex8] at hI
          obtain ⟨x9, ex9⟩ : ∃ z, z = ys x8 0 (u2 (x8.1 0) 0 z2 V9) := ⟨_, rfl⟩
          have hz9 : z2 < 6 := by omega
          have hset9 := ms_w (D := D) (L := L) (y := x8) (w := 0) (by decide) (mu_list (x8.1 0) (c := z2) hz9 V9) (by rw [u2_ne (by decide)])
          rw [← ex9] at hset9
          refine n_iast (cf' := cfM D L x9) (k := (3 + z2)) hx hb hK hI hS (mf_d) (na_add (rfl) (rfl)) (by omega) (by decide) hset9 dX13_saidHere_91 (fun H1 locs1 hI hS => ?_)
          rw [ex9, ex8, mx_w, mx_xs] at hI
          exact W.vret hx hb hr (fun t ht _ => ⟨rfl, by rw [ht]; exact hw_eq hI (congrArg (fun z => cfM D L (mdX y z)) (by first | (simp only [saM, sa1, sa2, hq1, hq2, hq3, hq4, hq5, nug_y hf_14, nug_y hf_31, nug_y hf_49, nug_y hf_68, if_pos hf_14, if_pos hf_31, if_pos hf_49, if_pos hf_68]; done) | (simp only [saM, sa1, sa2, hq1, hq2, hq3, hq4, hq5, nug_y hf_14, nug_y hf_31, nug_y hf_49, nug_y hf_68, if_pos hf_14, if_pos hf_31, if_pos hf_49, if_pos hf_68]; rw [eV9]; done) | (simp only [saM, sa1, sa2, hq1, hq2, hq3, hq4, hq5, nug_y hf_14, nug_y hf_31, nug_y hf_49, nug_y hf_68, if_pos hf_14, if_pos hf_31, if_pos hf_49, if_pos hf_68]; rw [eV9]; rfl))), hS.F ht⟩) hS.2.2 dX13_saidHere_92
theorem k_X13_handHere {l : Launch} {D : va_G} {L : Nat → Nat} {A : Nat → Prop} (y : mst) (n : Nat) (hR : rOkM y n) (w : wd) (a b k v : Nat) (f : Option Nat) (hs : msOk n (w, a, b, k, v, f)) : Met l yX13_handHere (ws_ yX13_handHere cX13_handHere 3 none) ({ frames := 3, cells := 0, slots := 0, locals := 64 } : Room) (va_Pc [.ref (L 0)] (pI D (cfM D L (mdX y (w, a, b, k, v, f))) A)) (nQ D (cfM D L (mdX y (haM (y.2.1 2) n (w, a, b, k, v, f)))) A none) 0 0 A := by
  refine met_I (by decide) rfl (Nat.le_of_ble_eq_true rfl) ?_
  intro p e s m below meth c ls hx hb hr hml hown hts hlocks hl hI hK
  have F : CallFix p m c cX13_handHere 3 s _ lw_all RX13 := ⟨hx, hb, hml, hown, hts⟩
  have hl : lv_has ls 3 [(0, .ref (L 0))] := hl
  have hS : va_S A s.heap s.heap [] := va_S.rf
  obtain ⟨hrn, hrN, hrt⟩ := id hR
  obtain ⟨ho0, ha0, hb0, hk0, hv0, hu0, hf0⟩ : wOk w ∧ a ≤ n ∧ b ≤ 120 ∧ k < 5 ∧ (k = 2 → v < 1000010) ∧ v < 4611686018427387904 ∧ (∀ b, f = some b → b ≤ 120) := ⟨hs.1, hs.2.1, hs.2.2.1, hs.2.2.2.1, hs.2.2.2.2.1, hs.2.2.2.2.2.1, hs.2.2.2.2.2.2⟩
  have h80 : wN w ≤ 8 := (wOk.n hs.1).2
  refine lv_aload_n hx hb dX13_handHere_0 rfl (lv_at hl 0 rfl) ?_
  refine c_m (k_V (As := []) (rest := []) F (k_X13_next y n hR w a b k v f (msOk.w hs)) (cwV 0 hts (lw_V q1505 q1507 qs78 q107 q1508) rfl rfl rfl (by decide +kernel) ⟨Nat.le_of_ble_eq_true rfl, Nat.le_of_ble_eq_true rfl⟩) hI hK (hw.recv hI hK (mf_main) rfl) rfl hl.1 rfl (Nat.le_of_ble_eq_true rfl) dX13_handHere_1 ⟨Nat.le_of_ble_eq_true rfl, Nat.le_of_ble_eq_true rfl⟩) hS (fun H1 locs1 hI hS => ?_)
  have hs1 := okM_next hrt hrN (msOk.w hs)
  rcases hq1 : nextM (y.2.1 2) n (w, a, b, k, v, f) with ⟨w1, a1, b1, k1, v1, f1⟩
  have hI : hw D (cfM D L (mdX y (w1, a1, b1, k1, v1, f1))) A H1 := by rw [hq1] at hI; exact hI
  rw [hq1] at hs1
  obtain ⟨⟨hs1, hg1, hm1⟩, hw1, hff1, hn1⟩ := hs1
  have hm1 : a ≤ a1 := hm1
  have hg1 : w1 1 1 = w 1 1 := hg1
  have hw1 : w1 = w := hw1
  have hk1 : k1 < 5 := hs1.2.2.2.1
  have hv1 : k1 = 2 → v1 < 1000010 := hs1.2.2.2.2.1
  have hu1 : v1 < 4611686018427387904 := hs1.2.2.2.2.2.1
  have ha1 : a1 ≤ n := hs1.2.1
  have h81 : wN w1 ≤ 8 := (wOk.n hs1.1).2
  refine lv_aload_n hx hb dX13_handHere_4 rfl (lv_at hl 0 rfl) ?_
  refine lv_aload_n hx hb dX13_handHere_5 rfl (lv_at hl 0 rfl) ?_
  refine r_get (C := RX13) (T := TX13) (N := 18) hx hb hts in_X13 hown hK hI (mf_main) rfl 0 (by decide) (hts _ q1164) (fun _ h => h) rfl dX13_handHere_6 ?_
  refine lv_iconst (v := 0) hx hb dX13_handHere_9 (by decide) ?_
  refine n_ialdv (k := 0) (v := nI (wN w1)) hx hb hK hI (mf_d) (rfl) (by decide) (by decide) ((congrFun (congrFun (mx_w y w1 a1 b1 k1 v1 f1) 1) 0).trans (wOk.n hs1.1).1) dX13_handHere_10 ?_
  refine lv_iconst (v := 1) hx hb dX13_handHere_11 (by decide) ?_
  refine lv_isub hx hb dX13_handHere_12 ?_
  refine c_m (k_V (As := [.int ((nI (wN w1)) - (1 : Int32))]) (rest := []) F (k_X13_numberHere y n hR w1 a1 b1 k1 v1 f1 hs1 ((nI (wN w1)) - (1 : Int32)) (wN w1) (mx_p (by omega))) (cwV 1 hts (lw_V q1555 q1557 qs86 q107 q1558) rfl rfl rfl (by decide +kernel) ⟨Nat.le_of_ble_eq_true rfl, Nat.le_of_ble_eq_true rfl⟩) hI hK (hw.recv hI hK (mf_main) rfl) rfl hl.1 rfl (Nat.le_of_ble_eq_true rfl) dX13_handHere_13 ⟨Nat.le_of_ble_eq_true rfl, Nat.le_of_ble_eq_true rfl⟩) hS (fun H1 locs1 hI hS => ?_)
  have hs2 := okM_nu hrt hrN hs1 (h := (wN w1))
  rcases hq2 : nuM (y.2.1 2) n (wN w1) (w1, a1, b1, k1, v1, f1) with ⟨z2, w2, a2, b2, k2, v2, f2⟩
  have hI : hw D (cfM D L (mdX y (w2, a2, b2, k2, v2, f2))) A H1 := by rw [hq2] at hI; exact hI
  rw [hq2] at hs2
  obtain ⟨⟨hs2, hg2, hm2⟩, hw2, hz2⟩ := hs2
  have hz2 : z2 = 0 ∨ z2 < _ := hz2
  have hm2 : a1 ≤ a2 := hm2
  have hg2 : w2 1 1 = w1 1 1 := hg2
  have hw2 : w2 = w1 := hw2
  have hk2 : k2 < 5 := hs2.2.2.2.1
  have hv2 : k2 = 2 → v2 < 1000010 := hs2.2.2.2.2.1
  have hu2 : v2 < 4611686018427387904 := hs2.2.2.2.2.2.1
  have ha2 : a2 ≤ n := hs2.2.1
  have h82 : wN w2 ≤ 8 := (wOk.n hs2.1).2
  refine lv_istore_n (lv' := [(1, .int (nI z2)), (0, .ref (L 0))]) hx hb dX13_handHere_16 rfl hl (by decide) rfl (fun ls hl => ?_)
  refine lv_aload_n hx hb dX13_handHere_17 rfl (lv_at hl 1 rfl) ?_
  refine r_get (v := .int (fI f2)) (C := RX13) (T := TX13) (N := 18) hx hb hts in_X13 hown hK hI (mf_main) rfl 13 (by decide) (hts _ q1177) (fun _ h => h) (rdv (mx_5 y w2 a2 b2 k2 v2 f2)) dX13_handHere_18 ?_
  refine lv_if_ge (tgt := 33) hx hb dX13_handHere_21 (by decide) (fun c_21 => ?_) (fun c_21 => ?_)
  · skip
    have c_21 := Int32.not_lt.mpr c_21
    have hf_21 : ¬ f2 = none := fun z => c_21 ((fI_lt hs2.2.2.2.2.2.2).mpr z)
    refine lv_iconst (v := 0) hx hb dX13_handHere_33 (by decide) ?_
    refine lv_istore_n (lv' := [(2, .int 0), (1, .int (nI z2)), (0, .ref (L 0))]) hx hb dX13_handHere_34 rfl hl (by decide) rfl (fun ls hl => ?_)
    refine lv_aload_n hx hb dX13_handHere_35 rfl (lv_at hl 2 rfl) ?_
    refine r_get (v := .int (fI f2)) (C := RX13) (T := TX13) (N := 18) hx hb hts in_X13 hown hK hI (mf_main) rfl 13 (by decide) (hts _ q1177) (fun _ h => h) (rdv (mx_5 y w2 a2 b2 k2 v2 f2)) dX13_handHere_36 ?_
    refine lv_if_ge (tgt := 49) hx hb dX13_handHere_39 (by decide) (fun c_39 => ?_) (fun c_39 => ?_)
    · skip
      have c_39 := Int32.not_lt.mpr c_39
      have hf_39 : ¬ f2 = none := fun z => c_39 ((fI_lt hs2.2.2.2.2.2.2).mpr z)
      exact W.vret hx hb hr (fun t ht _ => ⟨rfl, by rw [ht]; exact hw_eq hI (congrArg (fun z => cfM D L (mdX y z)) (by first | (simp only [haM, hzM, hyM, peM2, hq1, hq2, nug_n hf_21, nug_n hf_39, if_neg hf_21, if_neg hf_39]; done) | (simp only [haM, hzM, hyM, peM2, hq1, hq2, nug_n hf_21, nug_n hf_39, if_neg hf_21, if_neg hf_39]; rfl))), hS.F ht⟩) hS.2.2 dX13_handHere_49
    · skip
      have c_39 := Int32.not_le.mp c_39
      have hf_39 : f2 = none := (fI_lt hs2.2.2.2.2.2.2).mp c_39
      exact absurd hf_39 hf_21
  · skip
    have c_21 := Int32.not_le.mp c_21
    have hf_21 : f2 = none := (fI_lt hs2.2.2.2.2.2.2).mp c_21
    refine lv_aload_n hx hb dX13_handHere_24 rfl (lv_at hl 1 rfl) ?_
    refine lv_ldc (v := 65535) hx hb hown (hts _ q1320) dX13_handHere_25 ?_
    refine c_m (k_V (As := [.int 65535]) (rest := []) F (k_X13_numberHere y n hR w2 a2 b2 k2 v2 f2 hs2 65535 65536 (mx_l rfl (by decide))) (cwV 1 hts (lw_V q1555 q1557 qs86 q107 q1558) rfl rfl rfl (by decide +kernel) ⟨Nat.le_of_ble_eq_true rfl, Nat.le_of_ble_eq_true rfl⟩) hI hK (hw.recv hI hK (mf_main) rfl) rfl hl.1 rfl (Nat.le_of_ble_eq_true rfl) dX13_handHere_27 ⟨Nat.le_of_ble_eq_true rfl, Nat.le_of_ble_eq_true rfl⟩) hS (fun H1 locs1 hI hS => ?_)
    have hs3 := okM_nu hrt hrN hs2 (h := 65536)
    rcases hq3 : nuM (y.2.1 2) n 65536 (w2, a2, b2, k2, v2, f2) with ⟨z3, w3, a3, b3, k3, v3, f3⟩
    have hI : hw D (cfM D L (mdX y (w3, a3, b3, k3, v3, f3))) A H1 := by rw [hq3] at hI; exact hI
    rw [hq3] at hs3
    obtain ⟨⟨hs3, hg3, hm3⟩, hw3, hz3⟩ := hs3
    have hz3 : z3 = 0 ∨ z3 < _ := hz3
    have hm3 : a2 ≤ a3 := hm3
    have hg3 : w3 1 1 = w2 1 1 := hg3
    have hw3 : w3 = w2 := hw3
    have hk3 : k3 < 5 := hs3.2.2.2.1
    have hv3 : k3 = 2 → v3 < 1000010 := hs3.2.2.2.2.1
    have hu3 : v3 < 4611686018427387904 := hs3.2.2.2.2.2.1
    have ha3 : a3 ≤ n := hs3.2.1
    have h83 : wN w3 ≤ 8 := (wOk.n hs3.1).2
    refine lv_goto (tgt := 34) hx hb dX13_handHere_30 (by decide) ?_
    refine lv_istore_n (lv' := [(2, .int (nI z3)), (1, .int (nI z2)), (0, .ref (L 0))]) hx hb dX13_handHere_34 rfl hl (by decide) rfl (fun ls hl => ?_)
    refine lv_aload_n hx hb dX13_handHere_35 rfl (lv_at hl 2 rfl) ?_
    refine r_get (v := .int (fI f3)) (C := RX13) (T := TX13) (N := 18) hx hb hts in_X13 hown hK hI (mf_main) rfl 13 (by decide) (hts _ q1177) (fun _ h => h) (rdv (mx_5 y w3 a3 b3 k3 v3 f3)) dX13_handHere_36 ?_
    refine lv_if_ge (tgt := 49) hx hb dX13_handHere_39 (by decide) (fun c_39 => ?_) (fun c_39 => ?_)
    · skip
      have c_39 := Int32.not_lt.mpr c_39
      have hf_39 : ¬ f3 = none := fun z => c_39 ((fI_lt hs3.2.2.2.2.2.2).mpr z)
      exact W.vret hx hb hr (fun t ht _ => ⟨rfl, by rw [ht]; exact hw_eq hI (congrArg (fun z => cfM D L (mdX y z)) (by first | (simp only [haM, hzM, hyM, peM2, hq1, hq2, hq3, nug_y hf_21, nug_n hf_39, if_pos hf_21, if_neg hf_39]; done) | (simp only [haM, hzM, hyM, peM2, hq1, hq2, hq3, nug_y hf_21, nug_n hf_39, if_pos hf_21, if_neg hf_39]; rfl))), hS.F ht⟩) hS.2.2 dX13_handHere_49
    · skip
      have c_39 := Int32.not_le.mp c_39
      have hf_39 : f3 = none := (fI_lt hs3.2.2.2.2.2.2).mp c_39
      refine lv_aload_n hx hb dX13_handHere_42 rfl (lv_at hl 2 rfl) ?_
      refine lv_iload_n hx hb dX13_handHere_43 rfl (lv_at hl 1 rfl) ?_
      refine lv_iconst (v := 5) hx hb dX13_handHere_44 (by decide) ?_
      refine lv_iload_n hx hb dX13_handHere_45 rfl (lv_at hl 0 rfl) ?_
      refine c_m (k_V (As := [.int (nI z2), .int 5, .int (nI z3)]) (rest := []) F (k_X13_sets (mdX y (w3, a3, b3, k3, v3, f3)) (nI z2) 5 z2 5 (nI z3) (by omega) (by omega) rfl rfl) (cwV 3 hts (lw_V q1281 q1283 qs54 q107 q1284) rfl rfl rfl (by decide +kernel) ⟨Nat.le_of_ble_eq_true rfl, Nat.le_of_ble_eq_true rfl⟩) hI hK (hw.recv hI hK (mf_main) rfl) rfl hl.1 rfl (Nat.le_of_ble_eq_true rfl) dX13_handHere_46 ⟨Nat.le_of_ble_eq_true rfl, Nat.le_of_ble_eq_true rfl⟩) hS (fun H1 locs1 hI hS => ?_)
      rw [mx_w, mx_xs] at hI
      exact W.vret hx hb hr (fun t ht _ => ⟨rfl, by rw [ht]; exact hw_eq hI (congrArg (fun z => cfM D L (mdX y z)) (by first | (simp only [haM, hzM, hyM, peM2, hq1, hq2, hq3, nug_y hf_21, nug_y hf_39, if_pos hf_21, if_pos hf_39]; done) | (simp only [haM, hzM, hyM, peM2, hq1, hq2, hq3, nug_y hf_21, nug_y hf_39, if_pos hf_21, if_pos hf_39]; rfl))), hS.F ht⟩) hS.2.2 dX13_handHere_49
theorem k_X13_item {l : Launch} {D : va_G} {L : Nat → Nat} {A : Nat → Prop} (y : mst) (n : Nat) (hR : rOkM y n) (w : wd) (a b k v : Nat) (f : Option Nat) (hs : msOk n (w, a, b, k, v, f)) : Met l yX13_item (ws_ yX13_item cX13_item 2 none) ({ frames := 5, cells := 0, slots := 0, locals := 111 } : Room) (va_Pc [.ref (L 0)] (pI D (cfM D L (mdX y (w, a, b, k, v, f))) A)) (nQ D (cfM D L (mdX y (itM (y.2.1 2) n (w, a, b, k, v, f)))) A none) 0 0 A := by
  refine met_I (by decide) rfl (Nat.le_of_ble_eq_true rfl) ?_
  intro p e s m below meth c ls hx hb hr hml hown hts hlocks hl hI hK
  have F : CallFix p m c cX13_item 2 s _ lw_all RX13 := ⟨hx, hb, hml, hown, hts⟩
  have hl : lv_has ls 2 [(0, .ref (L 0))] := hl
  have hS : va_S A s.heap s.heap [] := va_S.rf
  obtain ⟨hrn, hrN, hrt⟩ := id hR
  obtain ⟨ho0, ha0, hb0, hk0, hv0, hu0, hf0⟩ : wOk w ∧ a ≤ n ∧ b ≤ 120 ∧ k < 5 ∧ (k = 2 → v < 1000010) ∧ v < 4611686018427387904 ∧ (∀ b, f = some b → b ≤ 120) := ⟨hs.1, hs.2.1, hs.2.2.1, hs.2.2.2.1, hs.2.2.2.2.1, hs.2.2.2.2.2.1, hs.2.2.2.2.2.2⟩
  refine lv_aload_n hx hb dX13_item_0 rfl (lv_at hl 0 rfl) ?_
  refine c_r (k_V (As := []) (rest := []) F (k_X13_kindHere y n hR w a b k v f hs) (cwV 0 hts (lw_V q1527 q1529 qs81 q107 q1530) rfl rfl rfl (by decide +kernel) ⟨Nat.le_of_ble_eq_true rfl, Nat.le_of_ble_eq_true rfl⟩) hI hK (hw.recv hI hK (mf_main) rfl) rfl hl.1 rfl (Nat.le_of_ble_eq_true rfl) dX13_item_1 ⟨Nat.le_of_ble_eq_true rfl, Nat.le_of_ble_eq_true rfl⟩) ?_
  refine lv_istore_n (lv' := [(1, .int (kdR k v)), (0, .ref (L 0))]) hx hb dX13_item_4 rfl hl (by decide) rfl (fun ls hl => ?_)
  refine lv_iload_n hx hb dX13_item_5 rfl (lv_at hl 0 rfl) ?_
  refine lv_if_lt (tgt := 17) hx hb dX13_item_6 (by decide) (fun c_6 => ?_) (fun c_6 => ?_)
  · skip
    have hkr := kd_l c_6
    refine lv_aload_n hx hb dX13_item_17 rfl (lv_at hl 1 rfl) ?_
    refine lv_ldc2 (v := 374953) hx hb hown (hts _ q1562) dX13_item_18 ?_
    refine c_r (k_V (As := [.long 374953]) (rest := []) F (k_X13_isWord y n hR w a b k v f hs 374953 (by omega)) (cwV 1 hts (lw_V q1532 q1534 qs82 q107 q1535) rfl rfl rfl (by decide +kernel) ⟨Nat.le_of_ble_eq_true rfl, Nat.le_of_ble_eq_true rfl⟩) hI hK (hw.recv hI hK (mf_main) rfl) rfl hl.1 rfl (Nat.le_of_ble_eq_true rfl) dX13_item_21 ⟨Nat.le_of_ble_eq_true rfl, Nat.le_of_ble_eq_true rfl⟩) ?_
    refine lv_if_eq (tgt := 34) hx hb dX13_item_24 (by decide) (fun c_24 => ?_) (fun c_24 => ?_)
    · skip
      have hw_24 : ¬ (k = 1 ∧ v = 374953) := wz.mp c_24
      refine lv_aload_n hx hb dX13_item_34 rfl (lv_at hl 1 rfl) ?_
      refine lv_ldc2 (v := 158575) hx hb hown (hts _ q1567) dX13_item_35 ?_
      refine c_r (k_V (As := [.long 158575]) (rest := []) F (k_X13_isWord y n hR w a b k v f hs 158575 (by omega)) (cwV 1 hts (lw_V q1532 q1534 qs82 q107 q1535) rfl rfl rfl (by decide +kernel) ⟨Nat.le_of_ble_eq_true rfl, Nat.le_of_ble_eq_true rfl⟩) hI hK (hw.recv hI hK (mf_main) rfl) rfl hl.1 rfl (Nat.le_of_ble_eq_true rfl) dX13_item_38 ⟨Nat.le_of_ble_eq_true rfl, Nat.le_of_ble_eq_true rfl⟩) ?_
      refine lv_if_eq (tgt := 51) hx hb dX13_item_41 (by decide) (fun c_41 => ?_) (fun c_41 => ?_)
      · skip
        have hw_41 : ¬ (k = 1 ∧ v = 158575) := wz.mp c_41
        refine lv_aload_n hx hb dX13_item_51 rfl (lv_at hl 1 rfl) ?_
        refine c_m (k_V (As := []) (rest := []) F (k_X13_wrongHere y n hR w a b k v f hs) (cwV 0 hts (lw_V q1546 q1548 qs84 q107 q1549) rfl rfl rfl (by decide +kernel) ⟨Nat.le_of_ble_eq_true rfl, Nat.le_of_ble_eq_true rfl⟩) hI hK (hw.recv hI hK (mf_main) rfl) rfl hl.1 rfl (Nat.le_of_ble_eq_true rfl) dX13_item_52 ⟨Nat.le_of_ble_eq_true rfl, Nat.le_of_ble_eq_true rfl⟩) hS (fun H1 locs1 hI hS => ?_)
        have hs1 := okM_wr hs
        rcases hq1 : wrM (w, a, b, k, v, f) with ⟨w1, a1, b1, k1, v1, f1⟩
        have hI : hw D (cfM D L (mdX y (w1, a1, b1, k1, v1, f1))) A H1 := by rw [hq1] at hI; exact hI
        rw [hq1] at hs1
        obtain ⟨⟨hs1, hg1, hm1⟩, hw1⟩ := hs1
        have hm1 : a ≤ a1 := hm1
        have hg1 : w1 1 1 = w 1 1 := hg1
        have hw1 : w1 = w := hw1
        have hk1 : k1 < 5 := hs1.2.2.2.1
        have hv1 : k1 = 2 → v1 < 1000010 := hs1.2.2.2.2.1
        have hu1 : v1 < 4611686018427387904 := hs1.2.2.2.2.2.1
        have ha1 : a1 ≤ n := hs1.2.1
        have h81 : wN w1 ≤ 8 := (wOk.n hs1.1).2
        exact W.vret hx hb hr (fun t ht _ => ⟨rfl, by rw [ht]; exact hw_eq hI (congrArg (fun z => cfM D L (mdX y z)) (by first | (rw [itM_g hkr.1, hq1]; done) | (rw [itM_s hkr hw_24, hq1]; done) | (rw [itM_h hkr hw_24 hw_41, hq1]; done) | (rw [itM_x hkr hw_24 hw_41, hq1]))), hS.F ht⟩) hS.2.2 dX13_item_55
      · skip
        have hw_41 : k = 1 ∧ v = 158575 := Classical.byContradiction (fun z => c_41 (wz.mpr z))
        refine lv_aload_n hx hb dX13_item_44 rfl (lv_at hl 1 rfl) ?_
        refine c_m (k_V (As := []) (rest := []) F (k_X13_handHere y n hR w a b k v f hs) (cwV 0 hts (lw_V q1568 q1570 qs88 q107 q1571) rfl rfl rfl (by decide +kernel) ⟨Nat.le_of_ble_eq_true rfl, Nat.le_of_ble_eq_true rfl⟩) hI hK (hw.recv hI hK (mf_main) rfl) rfl hl.1 rfl (Nat.le_of_ble_eq_true rfl) dX13_item_45 ⟨Nat.le_of_ble_eq_true rfl, Nat.le_of_ble_eq_true rfl⟩) hS (fun H1 locs1 hI hS => ?_)
        have hs2 := okM_ha hrt hrN hs
        rcases hq2 : haM (y.2.1 2) n (w, a, b, k, v, f) with ⟨w2, a2, b2, k2, v2, f2⟩
        have hI : hw D (cfM D L (mdX y (w2, a2, b2, k2, v2, f2))) A H1 := by rw [hq2] at hI; exact hI
        rw [hq2] at hs2
        obtain ⟨hs2, hg2, hm2⟩ := hs2
        have hm2 : a ≤ a2 := hm2
        have hg2 : w2 1 1 = w 1 1 := hg2
        have hk2 : k2 < 5 := hs2.2.2.2.1
        have hv2 : k2 = 2 → v2 < 1000010 := hs2.2.2.2.2.1
        have hu2 : v2 < 4611686018427387904 := hs2.2.2.2.2.2.1
        have ha2 : a2 ≤ n := hs2.2.1
        have h82 : wN w2 ≤ 8 := (wOk.n hs2.1).2
        refine lv_goto (tgt := 55) hx hb dX13_item_48 (by decide) ?_
        exact W.vret hx hb hr (fun t ht _ => ⟨rfl, by rw [ht]; exact hw_eq hI (congrArg (fun z => cfM D L (mdX y z)) (by first | (rw [itM_g hkr.1, hq2]; done) | (rw [itM_s hkr hw_24, hq2]; done) | (rw [itM_h hkr hw_24 hw_41, hq2]; done) | (rw [itM_x hkr hw_24 hw_41, hq2]))), hS.F ht⟩) hS.2.2 dX13_item_55
    · skip
      have hw_24 : k = 1 ∧ v = 374953 := Classical.byContradiction (fun z => c_24 (wz.mpr z))
      refine lv_aload_n hx hb dX13_item_27 rfl (lv_at hl 1 rfl) ?_
      refine c_m (k_V (As := []) (rest := []) F (k_X13_saidHere y n hR w a b k v f hs) (cwV 0 hts (lw_V q1563 q1565 qs87 q107 q1566) rfl rfl rfl (by decide +kernel) ⟨Nat.le_of_ble_eq_true rfl, Nat.le_of_ble_eq_true rfl⟩) hI hK (hw.recv hI hK (mf_main) rfl) rfl hl.1 rfl (Nat.le_of_ble_eq_true rfl) dX13_item_28 ⟨Nat.le_of_ble_eq_true rfl, Nat.le_of_ble_eq_true rfl⟩) hS (fun H1 locs1 hI hS => ?_)
      have hs3 := okM_sa hrt hrN hs
      rcases hq3 : saM (y.2.1 2) n (w, a, b, k, v, f) with ⟨w3, a3, b3, k3, v3, f3⟩
      have hI : hw D (cfM D L (mdX y (w3, a3, b3, k3, v3, f3))) A H1 := by rw [hq3] at hI; exact hI
      rw [hq3] at hs3
      obtain ⟨hs3, hg3, hm3⟩ := hs3
      have hm3 : a ≤ a3 := hm3
      have hg3 : w3 1 1 = w 1 1 := hg3
      have hk3 : k3 < 5 := hs3.2.2.2.1
      have hv3 : k3 = 2 → v3 < 1000010 := hs3.2.2.2.2.1
      have hu3 : v3 < 4611686018427387904 := hs3.2.2.2.2.2.1
      have ha3 : a3 ≤ n := hs3.2.1
      have h83 : wN w3 ≤ 8 := (wOk.n hs3.1).2
      refine lv_goto (tgt := 55) hx hb dX13_item_31 (by decide) ?_
      exact W.vret hx hb hr (fun t ht _ => ⟨rfl, by rw [ht]; exact hw_eq hI (congrArg (fun z => cfM D L (mdX y z)) (by first | (rw [itM_g hkr.1, hq3]; done) | (rw [itM_s hkr hw_24, hq3]; done) | (rw [itM_h hkr hw_24 hw_41, hq3]; done) | (rw [itM_x hkr hw_24 hw_41, hq3]))), hS.F ht⟩) hS.2.2 dX13_item_55
  · skip
    have hkr := kd_g c_6
    have hkr1 := hkr.1
    refine lv_aload_n hx hb dX13_item_9 rfl (lv_at hl 1 rfl) ?_
    refine lv_iload_n hx hb dX13_item_10 rfl (lv_at hl 0 rfl) ?_
    rw [hkr.2]
    refine c_m (k_V (As := [.int (nI (kdN k v))]) (rest := []) F (k_X13_gloveHere y n hR w a b k v f hs (kdN k v) (by omega)) (cwV 1 hts (lw_V q1542 q1544 qs83 q107 q1545) rfl rfl rfl (by decide +kernel) ⟨Nat.le_of_ble_eq_true rfl, Nat.le_of_ble_eq_true rfl⟩) hI hK (hw.recv hI hK (mf_main) rfl) rfl hl.1 rfl (Nat.le_of_ble_eq_true rfl) dX13_item_11 ⟨Nat.le_of_ble_eq_true rfl, Nat.le_of_ble_eq_true rfl⟩) hS (fun H1 locs1 hI hS => ?_)
    have hs4 := okM_gl hrt hrN hs (kd := (kdN k v)) (by omega)
    rcases hq4 : glM (y.2.1 2) n (kdN k v) (w, a, b, k, v, f) with ⟨w4, a4, b4, k4, v4, f4⟩
    have hI : hw D (cfM D L (mdX y (w4, a4, b4, k4, v4, f4))) A H1 := by rw [hq4] at hI; exact hI
    rw [hq4] at hs4
    obtain ⟨hs4, hg4, hm4⟩ := hs4
    have hm4 : a ≤ a4 := hm4
    have hg4 : w4 1 1 = w 1 1 := hg4
    have hk4 : k4 < 5 := hs4.2.2.2.1
    have hv4 : k4 = 2 → v4 < 1000010 := hs4.2.2.2.2.1
    have hu4 : v4 < 4611686018427387904 := hs4.2.2.2.2.2.1
    have ha4 : a4 ≤ n := hs4.2.1
    have h84 : wN w4 ≤ 8 := (wOk.n hs4.1).2
    refine lv_goto (tgt := 55) hx hb dX13_item_14 (by decide) ?_
    exact W.vret hx hb hr (fun t ht _ => ⟨rfl, by rw [ht]; exact hw_eq hI (congrArg (fun z => cfM D L (mdX y z)) (by first | (rw [itM_g hkr.1, hq4]; done) | (rw [itM_s hkr hw_24, hq4]; done) | (rw [itM_h hkr hw_24 hw_41, hq4]; done) | (rw [itM_x hkr hw_24 hw_41, hq4]))), hS.F ht⟩) hS.2.2 dX13_item_55
