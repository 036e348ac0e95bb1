/-! LeftGloves: the acts upon one world -/
/-- two states alike but for what nobody reads again (aside, told, the reader's numbers, the spots' things, the refusal) -/
def jk (x x' : cst) : Prop := x'.1 0 = x.1 0 ∧ x'.1 1 = x.1 1 ∧ x'.2.1 0 = x.2.1 0 ∧ x'.2.1 2 = x.2.1 2 ∧ x'.2.1 3 = x.2.1 3 ∧ x'.2.2.2 = x.2.2.2
theorem jk_rfl {x : cst} : jk x x := ⟨rfl, rfl, rfl, rfl, rfl, rfl⟩
theorem jk_eq {x x' : cst} (h : x' = x) : jk x x' := by subst h; exact jk_rfl
theorem jk.trans {x y z : cst} (h : jk x y) (h2 : jk y z) : jk x z := ⟨h2.1.trans h.1, h2.2.1.trans h.2.1, h2.2.2.1.trans h.2.2.1, h2.2.2.2.1.trans h.2.2.2.1, h2.2.2.2.2.1.trans h.2.2.2.2.1, h2.2.2.2.2.2.trans h.2.2.2.2.2⟩
theorem jk_a (x : cst) (f : wd) : jk x (xs x 2 f) := ⟨xs_ne (by decide), xs_ne (by decide), rfl, rfl, rfl, rfl⟩
theorem jk_xs {x x' : cst} (h : jk x x') (f : wd) : jk (xs x 0 f) (xs x' 0 f) := ⟨by rw [xs_at, xs_at], by rw [xs_ne (by decide), xs_ne (by decide)]; exact h.2.1, h.2.2.1, h.2.2.2.1, h.2.2.2.2.1, h.2.2.2.2.2⟩
theorem jk_fnd {x x' : cst} (h : jk x x') (k : Nat) : jk (fnd x k) (fnd x' k) := by
  refine ⟨h.1, h.2.1, ?_, ?_, ?_, h.2.2.2.2.2⟩
  · show u2 x'.2.1 3 k (x'.2.1 3 k + 1) 0 = u2 x.2.1 3 k (x.2.1 3 k + 1) 0
    rw [u2_ne (by decide), u2_ne (by decide)]; exact h.2.2.1
  · show u2 x'.2.1 3 k (x'.2.1 3 k + 1) 2 = u2 x.2.1 3 k (x.2.1 3 k + 1) 2
    rw [u2_ne (by decide), u2_ne (by decide)]; exact h.2.2.2.1
  · show u2 x'.2.1 3 k (x'.2.1 3 k + 1) 3 = u2 x.2.1 3 k (x.2.1 3 k + 1) 3
    rw [u2_same, u2_same, h.2.2.2.2.1]
def jQ (D : va_G) (L : Nat → Nat) (x : cst) (A : Nat → Prop) (ov : Option Value) : Array Value → State → Outcome → State → Prop := fun _ st oc t => oc = .returned ov ∧ (∃ x', jk x x' ∧ hw D (cfC D L x') A t.heap) ∧ va_F A st t
section CJ
variable {p : Program} {l : Launch} {e : Env} {R : Room} {s : State} {m : MethodId} {args : Array Value} {below : List Frame} {meth : Method} {c : Code} {H H0 : Heap} {locs : List Loc} {cells slots : Nat} {Q : State → Prop}
variable {pc : Nat} {ls : Array Slot} {rest st0 : List Value} {a : Array Value} {A : Nat → Prop} {D : va_G} {L : Nat → Nat} {x : cst} {ov : Option Value}
theorem c_j (hr : va_Run p l e R s m args below meth c H locs cells slots 0 0 (F0 m pc ls st0) rest (jQ D L x A ov a) A) (hS : va_S A H0 H locs)
    (kk : ∀ (x' : cst) (H1 : Heap) (locs1 : List Loc), jk x x' → hw D (cfC D L x') A H1 → va_S A H0 H1 locs1 → W p l e R s m args below meth c H1 locs1 cells slots Q (F0 m (pc + 3) ls (ov.toList ++ rest))) : W p l e R s m args below meth c H locs cells slots Q (F0 m pc ls st0) := by
  intro T hT X
  obtain ⟨w, st₀, t, T', L2, h0, X', hL, e1, e2, ⟨hv, ⟨x', hj, hI⟩, hz, hk⟩, st⟩ := hr T hT X
  cases hv
  rw [h0] at hz hk
  obtain ⟨t2, a1, b1⟩ := kk x' T'.heap (locs ++ L2) hj (by rw [e1]; exact hI) ⟨Nat.le_trans hS.1 (by rw [e1]; exact hz), fun q h1 h2 => by rw [e1, hk q (Nat.lt_of_lt_of_le h1 hS.1) h2]; exact hS.2.1 q h1 h2, fun q hq => by
      rcases List.mem_append.mp hq with h | h
      · exact hS.2.2 q h
      · exact hL q h⟩ T' rfl X'
  exact ⟨t2, st t2 a1, b1⟩
end CJ
theorem inI_to {v B : Int32} {b : Nat} (hB : B = nI b) (hb : b < 2 ^ 31) (h : ¬ inI v 0 B = 0) : ∃ k, k ≤ b ∧ v = nI k := by
  unfold inI at h
  by_cases h1 : v < 0
  · simp [h1] at h
  · by_cases h2 : B < v
    · simp [h1, h2] at h
    · obtain ⟨k, hk, rfl⟩ := nI_of h1
      exact ⟨k, by
        have : ¬ b < k := fun z => h2 ((nlt (a := b) (b := k) hB rfl hb hk).mpr z)
        omega, rfl⟩
theorem inI_to1 {v A B : Int32} {a b : Nat} (hA : A = nI a) (hB : B = nI b) (ha : a < 2 ^ 31) (hb : b < 2 ^ 31) (h : ¬ inI v A B = 0) : ∃ k, a ≤ k ∧ k ≤ b ∧ v = nI k := by
  unfold inI at h
  by_cases h1 : v < A
  · simp [h1] at h
  · by_cases h2 : B < v
    · simp [h1, h2] at h
    · have h0 : ¬ v < 0 := by
        intro z
        refine h1 (Int32.lt_of_lt_of_le z ?_)
        rw [hA]; exact nI_pos' ha
      obtain ⟨k, hk, rfl⟩ := nI_of h0
      have q1 : ¬ b < k := fun z => h2 ((nlt (a := b) (b := k) hB rfl hb hk).mpr z)
      have q2 : ¬ k < a := fun z => h1 ((nlt (a := k) (b := a) rfl hA hk ha).mpr z)
      exact ⟨k, by omega, by omega, rfl⟩
theorem isGl_to {f : wd} {v : Int32} {n : Nat} (hn : f 1 0 = nI n) (h8 : n ≤ 8) (h : ¬ isGlI f v = 0) : ∃ k, k < n ∧ v = nI k := by
  unfold isGlI at h
  rw [hn] at h
  cases n with
  | zero =>
    unfold inI at h
    by_cases h1 : v < 0
    · simp [h1] at h
    · exfalso
      have h2 : nI 0 - 1 < v := by
        obtain ⟨k, hk, rfl⟩ := nI_of h1
        rw [Int32.lt_iff_toInt_lt, nI_toInt hk]
        show (-1 : Int) < _
        omega
      simp [h1, h2] at h
  | succ n =>
    rw [nI_pred] at h
    obtain ⟨k, hk, e⟩ := inI_to (b := n) rfl (by omega) h
    exact ⟨k, by omega, e⟩
theorem tld_to {what v : Int32} (h : ¬ isTldI what v = 0) : ∃ r, r < 7 ∧ what = nI r := by
  unfold isTldI at h
  by_cases h0 : what = 0
  · exact ⟨0, by decide, h0⟩
  · by_cases h1 : what = 1
    · exact ⟨1, by decide, h1⟩
    · by_cases h2 : what = 2
      · exact ⟨2, by decide, h2⟩
      · by_cases h3 : what = 3
        · exact ⟨3, by decide, h3⟩
        · by_cases h4 : what = 4
          · exact ⟨4, by decide, h4⟩
          · by_cases h5 : what = 5
            · exact ⟨5, by decide, h5⟩
            · by_cases h6 : what = 6
              · exact ⟨6, by decide, h6⟩
              · simp [h0, h1, h2, h3, h4, h5, h6] at h
/-! an act's answer: a finding, or a number and the world behind it -/
abbrev act : Type := Nat ⊕ (Int32 × wd)
def aR : act → Int32
  | .inl k => -1000001 - nI k
  | .inr q => q.1
def aC (x : cst) : act → cst
  | .inl k => fnd x k
  | .inr q => xs x 0 q.2
def isPlI (i : Int32) : Int32 := inI i 0 5
def a_say (f : wd) (i v : Int32) : act := if inI i 0 5 = 0 then .inl 0 else if isSayI v = 0 then .inl 0 else .inr (f 0 i.toNatClampNeg, u2 f 0 i.toNatClampNeg v)
def a_said (f : wd) (i : Int32) : act := if inI i 0 5 = 0 then .inl 0 else .inr (f 0 i.toNatClampNeg, f)
def a_room (f : wd) (r w : Int32) : act := if inI r 0 5 = 0 then .inl 0 else if w = 0 then .inr (whI f r, f) else if w = 1 then .inr (hiI f r, f) else if w = 2 then .inr (knI f 3 (whI f r), f) else if w = 3 then .inr (siI f r, f) else .inl 0
def a_glove (f : wd) (k r : Int32) : act := if inI k 0 6 = 0 then .inl 0 else if inI r 0 5 = 0 then .inl 0 else if f 1 0 = 8 then .inl 1 else .inr (nI (wN f), addw f k r)
def a_of (f : wd) (g w : Int32) : act := if isGlI f g = 0 then .inl 0 else if inI w 1 6 = 0 then
    (if w = 0 then .inr (kdI (kN f g.toNatClampNeg), f) else if w = 7 then .inr (ndI f (kN f g.toNatClampNeg) g.toNatClampNeg, f) else if w = 8 then .inr (huI f (kN f g.toNatClampNeg) g.toNatClampNeg, f) else if w = 9 then .inr (styI (kN f g.toNatClampNeg), f) else if w = 10 then .inr (kpI (kN f g.toNatClampNeg), f) else .inl 0)
  else .inr (f (2 + w.toNatClampNeg) g.toNatClampNeg, f)
def a_change (f : wd) (g w v : Int32) : act := if isGlI f g = 0 then .inl 0 else if isTldI w v = 0 then .inl 0 else .inr (f (2 + w.toNatClampNeg) g.toNatClampNeg, u2 f (2 + w.toNatClampNeg) g.toNatClampNeg v)
def a_draw (f : wd) (g : Int32) : act := if isGlI f g = 0 then .inl 0 else if styI (kN f g.toNatClampNeg) = 0 then .inl 4 else .inr (isdw f g.toNatClampNeg (2 + 5) g.toNatClampNeg, isdw f g.toNatClampNeg)
def a_who (f : wd) (t h : Int32) : act := if inI t 0 15 = 0 then .inl 0 else if inI h 0 1 = 0 then .inl 0 else if h = 0 then .inr (woI f t 3, f) else .inr (woI f t 5, f)
def a_go (f : wd) (n : Int32) : act := if inI n 1 60 = 0 then .inl 0 else if ltI f n = 0 then .inr (knI (psn f n.toNatClampNeg) 3 (allI (psn f n.toNatClampNeg)), psn f n.toNatClampNeg) else .inl 4
def a_now (f : wd) (w : Int32) : act := if w = 0 then .inr (f 1 2, f) else if w = 1 then .inr (knI f 3 (allI f), f) else if w = 2 then .inr (knI f 5 (allI f), f) else if w = 3 then .inr (65535 &&& (kbI f (allI f) ^^^ (-1)), f) else if w = 4 then .inr (diI f, f) else if w = 5 then .inr (wiI f, f) else if w = 6 then .inr (heI f (nwI f), f) else .inl 0
def a_seed (f : wd) (v : Int32) : act := .inr (f 1 3, u2 f 1 3 v)
theorem k_X0_passes {l : Launch} {D : va_G} {L : Nat → Nat} {A : Nat → Prop} (x : cst) (hO : wOk (x.1 0)) (hd : isN (x.1 0 1 2) 10000) (n : Nat) (hn : n ≤ 1000) : Met l yX0_passes (ws_ yX0_passes cX0_passes 3 none) ({ frames := 6, cells := 0, slots := 0, locals := 130 } : Room) (va_Pc [.ref (L 44), .int (nI n)] (pI D (cfC D L x) A)) (nQ D (cfC D L (xs x 0 (psn (x.1 0) n))) A none) 0 0 A := by
  refine met_I (by decide) rfl (Nat.le_of_ble_eq_true rfl) ?_
  intro p e s m below meth c ls hx hb hr hml hown hts hlocks hl hI hK
  have F : CallFix p m c cX0_passes 3 s _ lw_all RX0 := ⟨hx, hb, hml, hown, hts⟩
  have hl : lv_has ls 3 [(0, .ref (L 44)), (1, .int (nI n))] := hl
  have hS : va_S A s.heap s.heap [] := va_S.rf
  refine lv_iconst (v := 0) hx hb dX0_passes_0 (by decide) ?_
  refine lv_istore_n (lv' := [(2, .int 0), (0, .ref (L 44)), (1, .int (nI n))]) hx hb dX0_passes_1 rfl hl (by decide) rfl (fun ls hl => ?_)
  have lp2 : ∀ (fuel : Nat) (i : Nat), (i ≤ n) → n - i < fuel → ∀ (v2 : Int32), v2 = nI i → ∀ (xc2 : cst), xc2 = xs x 0 (psn (x.1 0) i) → ∀ (H : Heap) (locs : List Loc), hw D (cfC D L xc2) A H → va_S A s.heap H locs → ∀ (ls : Array Slot), lv_has ls 3 [(0, .ref (L 44)), (1, .int (nI n)), (2, .int v2)] → W p l e ({ frames := 6, cells := 0, slots := 0, locals := 130 } : Room) s m ([.ref (L 44), .int (nI n)] : List Value).toArray below meth c H locs 0 0 (MQ below (nQ D (cfC D L (xs x 0 (psn (x.1 0) n))) A none) ([.ref (L 44), .int (nI n)] : List Value).toArray s 0 0 A) (F0 m 2 ls []) := by
    intro fuel
    induction fuel with
    | zero => intro i hi hf; exact absurd hf (Nat.not_lt_zero _)
    | succ fuel ih2 =>
      intro i hi hf2 v2 e2  xc2 exc2 H locs hI hS ls hl
      subst e2
      have hO2 : wOk (xc2.1 0) := by rw [exc2, xs_at]; exact wOk_psn hO hd i (by omega)
      refine lv_iload_n hx hb dX0_passes_2 rfl (lv_at hl 2 rfl) ?_
      refine lv_iload_n hx hb dX0_passes_3 rfl (lv_at hl 1 rfl) ?_
      refine lv_icmp_ge (tgt := 17) hx hb dX0_passes_4 (by decide) (fun c_4 => ?_) (fun c_4 => ?_)
      · skip
        have c_4 : n ≤ i := (nle (a := n) (b := i) (rfl) (rfl) (by omega) (by omega)).mp c_4
        exact W.vret hx hb hr (fun t ht _ => ⟨rfl, by rw [ht]; exact hw_eq hI (congrArg (cfC D L) (by rw [exc2, show i = n by omega])), hS.F ht⟩) hS.2.2 dX0_passes_17
      · skip
        have c_4 : ¬ n ≤ i := fun z => c_4 ((nle (a := n) (b := i) (rfl) (rfl) (by omega) (by omega)).mpr z)
        refine lv_aload_n hx hb dX0_passes_7 rfl (lv_at hl 0 rfl) ?_
        refine c_m (k_V (As := []) (rest := []) F (k_X0_passes_2 xc2 (hO2)) (cwV 0 hts (lw_V q713 q715 qs9 q91 q716) rfl rfl rfl (by decide +kernel) ⟨Nat.le_of_ble_eq_true rfl, Nat.le_of_ble_eq_true rfl⟩) hI hK (hw.recv hI hK (cf_main) rfl) rfl hl.1 rfl (Nat.le_of_ble_eq_true rfl) dX0_passes_8 ⟨Nat.le_of_ble_eq_true rfl, Nat.le_of_ble_eq_true rfl⟩) hS (fun H1 locs1 hI hS => ?_)
        obtain ⟨x1, ex1⟩ : ∃ z, z = xs xc2 0 (psw (xc2.1 0)) := ⟨_, rfl⟩
        rw [← ex1] at hI
        refine lv_iinc (v := (nI (i + 1))) (lv' := [(2, .int (nI (i + 1))), (0, .ref (L 44)), (1, .int (nI n))]) hx hb dX0_passes_11 hl (k := 2) rfl (nI_1 _) (by decide) rfl (fun ls hl => ?_)
        refine lv_goto (tgt := 2) hx hb dX0_passes_14 (by decide) ?_
        exact ih2 (i + 1) (by omega) (by omega) (nI (i + 1)) (rfl) x1 (by rw [ex1, exc2]; simp only [xs_at, xs_xs]; rfl) _ _ hI hS ls (lv_sub hl [1, 2, 0] rfl)
  exact lp2 (_ + 1) (0) (Nat.zero_le _) (Nat.lt_succ_self _) 0 (rfl) x ((xs_self _ _).symm) _ _ hI hS ls (lv_sub hl [1, 2, 0] rfl)
theorem k_X0_say {l : Launch} {D : va_G} {L : Nat → Nat} {A : Nat → Prop} (x : cst) (i v : Int32) : Met l yX0_say (ws_ yX0_say cX0_say 4 (some .int)) ({ frames := 3, cells := 0, slots := 0, locals := 62 } : Room) (va_Pc [.ref (L 44), .int i, .int v] (pI D (cfC D L x) A)) (nQ D (cfC D L (aC x (a_say (x.1 0) i v))) A (some (.int (aR (a_say (x.1 0) i v))))) 0 0 A := by
  refine met_I (by decide) rfl (Nat.le_of_ble_eq_true rfl) ?_
  intro p e s m below meth c ls hx hb hr hml hown hts hlocks hl hI hK
  have F : CallFix p m c cX0_say 4 s _ lw_all RX0 := ⟨hx, hb, hml, hown, hts⟩
  have hl : lv_has ls 4 [(0, .ref (L 44)), (1, .int i), (2, .int v)] := hl
  have hS : va_S A s.heap s.heap [] := va_S.rf
  refine lv_iload_n hx hb dX0_say_0 rfl (lv_at hl 1 rfl) ?_
  refine c_r (k_S (As := [.int i]) (rest := []) F (k_X0_isPlace i) (va_cwS 1 hts (lw_S q436 q437 q91 q438) rfl rfl rfl (by decide +kernel) ⟨Nat.le_of_ble_eq_true rfl, Nat.le_of_ble_eq_true rfl⟩) rfl hl.1 rfl (Nat.le_of_ble_eq_true rfl) dX0_say_1 ⟨Nat.le_of_ble_eq_true rfl, Nat.le_of_ble_eq_true rfl⟩) ?_
  refine lv_if_eq (tgt := 14) hx hb dX0_say_4 (by decide) (fun c_4 => ?_) (fun c_4 => ?_)
  · skip
    refine lv_aload_n hx hb dX0_say_14 rfl (lv_at hl 0 rfl) ?_
    refine lv_iconst (v := 0) hx hb dX0_say_15 (by decide) ?_
    refine c_m (k_V (As := [.int 0]) (rest := []) F (k_X0_finding x 0 (by decide)) (cwV 1 hts (lw_V q457 q459 qs2 q91 q460) rfl rfl rfl (by decide +kernel) ⟨Nat.le_of_ble_eq_true rfl, Nat.le_of_ble_eq_true rfl⟩) hI hK (hw.recv hI hK (cf_main) rfl) rfl hl.1 rfl (Nat.le_of_ble_eq_true rfl) dX0_say_16 ⟨Nat.le_of_ble_eq_true rfl, Nat.le_of_ble_eq_true rfl⟩) hS (fun H1 locs1 hI hS => ?_)
    obtain ⟨x1, ex1⟩ : ∃ z, z = (fnd x 0) := ⟨_, rfl⟩
    rw [← ex1] at hI
    exact W.iret hx hb hr (fun t ht _ => ⟨rI (by first | (simp only [a_say, aR, if_pos c_4]; done) | (simp [a_say, aR, c_4]; done)), by rw [ht]; exact hw_eq hI (congrArg (cfC D L) (by first | (rw [ex1]; simp only [a_say, aC, if_pos c_4]; done) | (simp only [a_say, aC, xs_self, if_pos c_4]; done) | (rw [ex1]; simp [a_say, aC, c_4]; done) | (simp [a_say, aC, c_4, xs_self]; done))), hS.F ht⟩) hS.2.2 dX0_say_19
  · skip
    refine lv_iload_n hx hb dX0_say_7 rfl (lv_at hl 2 rfl) ?_
    refine c_r (k_S (As := [.int v]) (rest := []) F (k_X0_isSaying v) (va_cwS 1 hts (lw_S q442 q443 q91 q444) rfl rfl rfl (by decide +kernel) ⟨Nat.le_of_ble_eq_true rfl, Nat.le_of_ble_eq_true rfl⟩) rfl hl.1 rfl (Nat.le_of_ble_eq_true rfl) dX0_say_8 ⟨Nat.le_of_ble_eq_true rfl, Nat.le_of_ble_eq_true rfl⟩) ?_
    refine lv_if_ne (tgt := 20) hx hb dX0_say_11 (by decide) (fun c_11 => ?_) (fun c_11 => ?_)
    · skip
      obtain ⟨j, hj, ei⟩ := inI_to (b := 5) rfl (by decide) c_4
      have ei2 : i.toNatClampNeg = j := by rw [ei, nI_clamp (by omega)]
      subst ei
      refine lv_aload_n hx hb dX0_say_20 rfl (lv_at hl 0 rfl) ?_
      refine r_get (C := RX0) (T := TX0) (N := 11) hx hb hts in_X0 hown hK hI (cf_main) rfl 3 (by decide) (hts _ q401) (fun _ h => h) rfl dX0_say_21 ?_
      refine r_getN (C := RX4) (T := TX4) (N := 7) hx hb hts in_X4 hown hK hI (cf_W (w := 0) (by decide)) rfl 0 (by decide) (nf_2 hK) (fun _ h => h) rfl dX0_say_24 ?_
      refine lv_iload_n hx hb dX0_say_27 rfl (lv_at hl 1 rfl) ?_
      refine n_iald (k := j) hx hb hK hI (cf_list (w := 0) (by decide)) (rfl) (by omega) (by decide) dX0_say_28 ?_
      refine lv_istore_n (lv' := [(3, .int (x.1 0 0 j)), (0, .ref (L 44)), (1, .int (nI j)), (2, .int v)]) hx hb dX0_say_29 rfl hl (by decide) rfl (fun ls hl => ?_)
      refine lv_aload_n hx hb dX0_say_30 rfl (lv_at hl 1 rfl) ?_
      refine r_get (C := RX0) (T := TX0) (N := 11) hx hb hts in_X0 hown hK hI (cf_main) rfl 3 (by decide) (hts _ q401) (fun _ h => h) rfl dX0_say_31 ?_
      refine r_getN (C := RX4) (T := TX4) (N := 7) hx hb hts in_X4 hown hK hI (cf_W (w := 0) (by decide)) rfl 0 (by decide) (nf_2 hK) (fun _ h => h) rfl dX0_say_34 ?_
      refine lv_iload_n hx hb dX0_say_37 rfl (lv_at hl 2 rfl) ?_
      refine lv_iload_n hx hb dX0_say_38 rfl (lv_at hl 3 rfl) ?_
      obtain ⟨x2, ex2⟩ : ∃ z, z = xs x 0 (u2 (x.1 0) 0 j v) := ⟨_, rfl⟩
      refine n_iast (cf' := cfC D L x2) (k := j) hx hb hK hI hS (cf_list (w := 0) (by decide)) (rfl) (by omega) (by decide) (by rw [ex2]; exact cs_list (w := 0) (by decide)) dX0_say_39 (fun H1 locs1 hI hS => ?_)
      refine lv_iload_n hx hb dX0_say_40 rfl (lv_at hl 0 rfl) ?_
      exact W.iret hx hb hr (fun t ht _ => ⟨rI (by first | (simp only [a_say, aR, if_neg c_4, if_neg c_11, ei2]; done) | (simp [a_say, aR, c_4, c_11, ei2]; done)), by rw [ht]; exact hw_eq hI (congrArg (cfC D L) (by first | (rw [ex2]; simp only [a_say, aC, if_neg c_4, if_neg c_11, ei2]; done) | (simp only [a_say, aC, xs_self, if_neg c_4, if_neg c_11, ei2]; done) | (rw [ex2]; simp [a_say, aC, c_4, c_11, ei2]; done) | (simp [a_say, aC, c_4, c_11, ei2, xs_self]; done))), hS.F ht⟩) hS.2.2 dX0_say_41
    · skip
      refine lv_aload_n hx hb dX0_say_14 rfl (lv_at hl 0 rfl) ?_
      refine lv_iconst (v := 0) hx hb dX0_say_15 (by decide) ?_
      refine c_m (k_V (As := [.int 0]) (rest := []) F (k_X0_finding x 0 (by decide)) (cwV 1 hts (lw_V q457 q459 qs2 q91 q460) rfl rfl rfl (by decide +kernel) ⟨Nat.le_of_ble_eq_true rfl, Nat.le_of_ble_eq_true rfl⟩) hI hK (hw.recv hI hK (cf_main) rfl) rfl hl.1 rfl (Nat.le_of_ble_eq_true rfl) dX0_say_16 ⟨Nat.le_of_ble_eq_true rfl, Nat.le_of_ble_eq_true rfl⟩) hS (fun H1 locs1 hI hS => ?_)
      obtain ⟨x3, ex3⟩ : ∃ z, z = (fnd x 0) := ⟨_, rfl⟩
      rw [← ex3] at hI
      exact W.iret hx hb hr (fun t ht _ => ⟨rI (by first | (simp only [a_say, aR, if_neg c_4, if_pos c_11]; done) | (simp [a_say, aR, c_4, c_11]; done)), by rw [ht]; exact hw_eq hI (congrArg (cfC D L) (by first | (rw [ex3]; simp only [a_say, aC, if_neg c_4, if_pos c_11]; done) | (simp only [a_say, aC, xs_self, if_neg c_4, if_pos c_11]; done) | (rw [ex3]; simp [a_say, aC, c_4, c_11]; done) | (simp [a_say, aC, c_4, c_11, xs_self]; done))), hS.F ht⟩) hS.2.2 dX0_say_19
theorem k_X0_said {l : Launch} {D : va_G} {L : Nat → Nat} {A : Nat → Prop} (x : cst) (i : Int32) : Met l yX0_said (ws_ yX0_said cX0_said 2 (some .int)) ({ frames := 2, cells := 0, slots := 0, locals := 42 } : Room) (va_Pc [.ref (L 44), .int i] (pI D (cfC D L x) A)) (nQ D (cfC D L (aC x (a_said (x.1 0) i))) A (some (.int (aR (a_said (x.1 0) i))))) 0 0 A := by
  refine met_I (by decide) rfl (Nat.le_of_ble_eq_true rfl) ?_
  intro p e s m below meth c ls hx hb hr hml hown hts hlocks hl hI hK
  have F : CallFix p m c cX0_said 2 s _ lw_all RX0 := ⟨hx, hb, hml, hown, hts⟩
  have hl : lv_has ls 2 [(0, .ref (L 44)), (1, .int i)] := hl
  have hS : va_S A s.heap s.heap [] := va_S.rf
  refine lv_iload_n hx hb dX0_said_0 rfl (lv_at hl 1 rfl) ?_
  refine c_r (k_S (As := [.int i]) (rest := []) F (k_X0_isPlace i) (va_cwS 1 hts (lw_S q436 q437 q91 q438) rfl rfl rfl (by decide +kernel) ⟨Nat.le_of_ble_eq_true rfl, Nat.le_of_ble_eq_true rfl⟩) rfl hl.1 rfl (Nat.le_of_ble_eq_true rfl) dX0_said_1 ⟨Nat.le_of_ble_eq_true rfl, Nat.le_of_ble_eq_true rfl⟩) ?_
  refine lv_if_eq (tgt := 19) hx hb dX0_said_4 (by decide) (fun c_4 => ?_) (fun c_4 => ?_)
  · skip
    refine lv_aload_n hx hb dX0_said_19 rfl (lv_at hl 0 rfl) ?_
    refine lv_iconst (v := 0) hx hb dX0_said_20 (by decide) ?_
    refine c_m (k_V (As := [.int 0]) (rest := []) F (k_X0_finding x 0 (by decide)) (cwV 1 hts (lw_V q457 q459 qs2 q91 q460) rfl rfl rfl (by decide +kernel) ⟨Nat.le_of_ble_eq_true rfl, Nat.le_of_ble_eq_true rfl⟩) hI hK (hw.recv hI hK (cf_main) rfl) rfl hl.1 rfl (Nat.le_of_ble_eq_true rfl) dX0_said_21 ⟨Nat.le_of_ble_eq_true rfl, Nat.le_of_ble_eq_true rfl⟩) hS (fun H1 locs1 hI hS => ?_)
    obtain ⟨x1, ex1⟩ : ∃ z, z = (fnd x 0) := ⟨_, rfl⟩
    rw [← ex1] at hI
    exact W.iret hx hb hr (fun t ht _ => ⟨rI (by first | (simp only [a_said, aR, if_pos c_4]; done) | (simp [a_said, aR, c_4]; done)), by rw [ht]; exact hw_eq hI (congrArg (cfC D L) (by first | (rw [ex1]; simp only [a_said, aC, if_pos c_4]; done) | (simp only [a_said, aC, xs_self, if_pos c_4]; done) | (rw [ex1]; simp [a_said, aC, c_4]; done) | (simp [a_said, aC, c_4, xs_self]; done))), hS.F ht⟩) hS.2.2 dX0_said_24
  · skip
    obtain ⟨j, hj, ei⟩ := inI_to (b := 5) rfl (by decide) c_4
    have ei2 : i.toNatClampNeg = j := by rw [ei, nI_clamp (by omega)]
    subst ei
    refine lv_aload_n hx hb dX0_said_7 rfl (lv_at hl 0 rfl) ?_
    refine r_get (C := RX0) (T := TX0) (N := 11) hx hb hts in_X0 hown hK hI (cf_main) rfl 3 (by decide) (hts _ q401) (fun _ h => h) rfl dX0_said_8 ?_
    refine r_getN (C := RX4) (T := TX4) (N := 7) hx hb hts in_X4 hown hK hI (cf_W (w := 0) (by decide)) rfl 0 (by decide) (nf_2 hK) (fun _ h => h) rfl dX0_said_11 ?_
    refine lv_iload_n hx hb dX0_said_14 rfl (lv_at hl 1 rfl) ?_
    refine n_iald (k := j) hx hb hK hI (cf_list (w := 0) (by decide)) (rfl) (by omega) (by decide) dX0_said_15 ?_
    refine lv_goto (tgt := 24) hx hb dX0_said_16 (by decide) ?_
    exact W.iret hx hb hr (fun t ht _ => ⟨rI (by first | (simp only [a_said, aR, if_neg c_4, ei2]; done) | (simp [a_said, aR, c_4, ei2]; done)), by rw [ht]; exact hw_eq hI (congrArg (cfC D L) (by first | (rw []; simp only [a_said, aC, if_neg c_4, ei2]; done) | (simp only [a_said, aC, xs_self, if_neg c_4, ei2]; done) | (rw []; simp [a_said, aC, c_4, ei2]; done) | (simp [a_said, aC, c_4, ei2, xs_self]; done))), hS.F ht⟩) hS.2.2 dX0_said_24
theorem k_X0_room {l : Launch} {D : va_G} {L : Nat → Nat} {A : Nat → Prop} (x : cst) (hO : wOk (x.1 0)) (r w : Int32) : Met l yX0_room (ws_ yX0_room cX0_room 3 (some .int)) ({ frames := 3, cells := 0, slots := 0, locals := 68 } : Room) (va_Pc [.ref (L 44), .int r, .int w] (pI D (cfC D L x) A)) (nQ D (cfC D L (aC x (a_room (x.1 0) r w))) A (some (.int (aR (a_room (x.1 0) r w))))) 0 0 A := by
  refine met_I (by decide) rfl (Nat.le_of_ble_eq_true rfl) ?_
  intro p e s m below meth c ls hx hb hr hml hown hts hlocks hl hI hK
  have F : CallFix p m c cX0_room 3 s _ lw_all RX0 := ⟨hx, hb, hml, hown, hts⟩
  have hl : lv_has ls 3 [(0, .ref (L 44)), (1, .int r), (2, .int w)] := hl
  have hS : va_S A s.heap s.heap [] := va_S.rf
  obtain ⟨n, hn, h8⟩ : ∃ n, x.1 0 1 0 = nI n ∧ n ≤ 8 := ⟨_, hO.n⟩
  have hN : wN (x.1 0) = n := by unfold wN; rw [hn, nI_clamp (by omega)]
  refine lv_iload_n hx hb dX0_room_0 rfl (lv_at hl 1 rfl) ?_
  refine c_r (k_S (As := [.int r]) (rest := []) F (k_X0_isRoom r) (va_cwS 1 hts (lw_S q448 q449 q91 q450) rfl rfl rfl (by decide +kernel) ⟨Nat.le_of_ble_eq_true rfl, Nat.le_of_ble_eq_true rfl⟩) rfl hl.1 rfl (Nat.le_of_ble_eq_true rfl) dX0_room_1 ⟨Nat.le_of_ble_eq_true rfl, Nat.le_of_ble_eq_true rfl⟩) ?_
  refine lv_if_ne (tgt := 13) hx hb dX0_room_4 (by decide) (fun c_4 => ?_) (fun c_4 => ?_)
  · skip
    refine lv_iload_n hx hb dX0_room_13 rfl (lv_at hl 2 rfl) ?_
    by_cases c_14_0 : w = 0
    · skip
      refine lv_tableIn (off := 30) (tgt := 44) hx hb dX0_room_14 (by rw [c_14_0]; decide) (by rw [c_14_0]; decide) (by rw [c_14_0]; rfl) (by decide) ?_
      refine lv_aload_n hx hb dX0_room_44 rfl (lv_at hl 0 rfl) ?_
      refine r_get (C := RX0) (T := TX0) (N := 11) hx hb hts in_X0 hown hK hI (cf_main) rfl 3 (by decide) (hts _ q401) (fun _ h => h) rfl dX0_room_45 ?_
      refine lv_iload_n hx hb dX0_room_48 rfl (lv_at hl 1 rfl) ?_
      refine c_r (k_V (As := [.int r]) (rest := []) F (k_X4_whatIsIn x 0 (by decide) (hO) r) (cwV 1 hts (lw_V q470 q471 q472 q98 q473) rfl rfl rfl (by decide +kernel) ⟨Nat.le_of_ble_eq_true rfl, Nat.le_of_ble_eq_true rfl⟩) hI hK (hw.recv hI hK (cf_W (w := 0) (by decide)) rfl) rfl hl.1 rfl (Nat.le_of_ble_eq_true rfl) dX0_room_49 ⟨Nat.le_of_ble_eq_true rfl, Nat.le_of_ble_eq_true rfl⟩) ?_
      exact W.iret hx hb hr (fun t ht _ => ⟨rI (by first | (simp only [a_room, aR, if_neg c_4, if_pos c_14_0]; done) | (simp [a_room, aR, c_4, c_14_0]; done)), by rw [ht]; exact hw_eq hI (congrArg (cfC D L) (by first | (rw []; simp only [a_room, aC, if_neg c_4, if_pos c_14_0]; done) | (simp only [a_room, aC, xs_self, if_neg c_4, if_pos c_14_0]; done) | (rw []; simp [a_room, aC, c_4, c_14_0]; done) | (simp [a_room, aC, c_4, c_14_0, xs_self]; done))), hS.F ht⟩) hS.2.2 dX0_room_52
    by_cases c_14_1 : w = 1
    · skip
      refine lv_tableIn (off := 39) (tgt := 53) hx hb dX0_room_14 (by rw [c_14_1]; decide) (by rw [c_14_1]; decide) (by rw [c_14_1]; rfl) (by decide) ?_
      refine lv_aload_n hx hb dX0_room_53 rfl (lv_at hl 0 rfl) ?_
      refine lv_iload_n hx hb dX0_room_54 rfl (lv_at hl 1 rfl) ?_
      refine c_r (k_V (As := [.int r]) (rest := []) F (k_X0_hushedIn x (hO) r) (cwV 1 hts (lw_V q477 q479 qs3 q91 q480) rfl rfl rfl (by decide +kernel) ⟨Nat.le_of_ble_eq_true rfl, Nat.le_of_ble_eq_true rfl⟩) hI hK (hw.recv hI hK (cf_main) rfl) rfl hl.1 rfl (Nat.le_of_ble_eq_true rfl) dX0_room_55 ⟨Nat.le_of_ble_eq_true rfl, Nat.le_of_ble_eq_true rfl⟩) ?_
      exact W.iret hx hb hr (fun t ht _ => ⟨rI (by first | (simp only [a_room, aR, if_neg c_4, if_neg c_14_0, if_pos c_14_1]; done) | (simp [a_room, aR, c_4, c_14_0, c_14_1]; done)), by rw [ht]; exact hw_eq hI (congrArg (cfC D L) (by first | (rw []; simp only [a_room, aC, if_neg c_4, if_neg c_14_0, if_pos c_14_1]; done) | (simp only [a_room, aC, xs_self, if_neg c_4, if_neg c_14_0, if_pos c_14_1]; done) | (rw []; simp [a_room, aC, c_4, c_14_0, c_14_1]; done) | (simp [a_room, aC, c_4, c_14_0, c_14_1, xs_self]; done))), hS.F ht⟩) hS.2.2 dX0_room_58
    by_cases c_14_2 : w = 2
    · skip
      refine lv_tableIn (off := 45) (tgt := 59) hx hb dX0_room_14 (by rw [c_14_2]; decide) (by rw [c_14_2]; decide) (by rw [c_14_2]; rfl) (by decide) ?_
      refine lv_aload_n hx hb dX0_room_59 rfl (lv_at hl 0 rfl) ?_
      refine r_get (C := RX0) (T := TX0) (N := 11) hx hb hts in_X0 hown hK hI (cf_main) rfl 3 (by decide) (hts _ q401) (fun _ h => h) rfl dX0_room_60 ?_
      refine lv_iconst (v := 3) hx hb dX0_room_63 (by decide) ?_
      refine lv_aload_n hx hb dX0_room_64 rfl (lv_at hl 0 rfl) ?_
      refine r_get (C := RX0) (T := TX0) (N := 11) hx hb hts in_X0 hown hK hI (cf_main) rfl 3 (by decide) (hts _ q401) (fun _ h => h) rfl dX0_room_65 ?_
      refine lv_iload_n hx hb dX0_room_68 rfl (lv_at hl 1 rfl) ?_
      refine c_r (k_V (As := [.int r]) (rest := [.int 3, .ref (L (11 * 0))]) F (k_X4_whatIsIn x 0 (by decide) (hO) r) (cwV 1 hts (lw_V q470 q471 q472 q98 q473) rfl rfl rfl (by decide +kernel) ⟨Nat.le_of_ble_eq_true rfl, Nat.le_of_ble_eq_true rfl⟩) hI hK (hw.recv hI hK (cf_W (w := 0) (by decide)) rfl) rfl hl.1 rfl (Nat.le_of_ble_eq_true rfl) dX0_room_69 ⟨Nat.le_of_ble_eq_true rfl, Nat.le_of_ble_eq_true rfl⟩) ?_
      refine c_r (k_V (As := [.int 3, .int (whI (x.1 0) r)]) (rest := []) F (k_X4_known x 0 (by decide) (hO) 3 (whI (x.1 0) r) (by decide)) (cwV 2 hts (lw_V q518 q519 q520 q98 q521) rfl rfl rfl (by decide +kernel) ⟨Nat.le_of_ble_eq_true rfl, Nat.le_of_ble_eq_true rfl⟩) hI hK (hw.recv hI hK (cf_W (w := 0) (by decide)) rfl) rfl hl.1 rfl (Nat.le_of_ble_eq_true rfl) dX0_room_72 ⟨Nat.le_of_ble_eq_true rfl, Nat.le_of_ble_eq_true rfl⟩) ?_
      exact W.iret hx hb hr (fun t ht _ => ⟨rI (by first | (simp only [a_room, aR, if_neg c_4, if_neg c_14_0, if_neg c_14_1, if_pos c_14_2]; done) | (simp [a_room, aR, c_4, c_14_0, c_14_1, c_14_2]; done)), by rw [ht]; exact hw_eq hI (congrArg (cfC D L) (by first | (rw []; simp only [a_room, aC, if_neg c_4, if_neg c_14_0, if_neg c_14_1, if_pos c_14_2]; done) | (simp only [a_room, aC, xs_self, if_neg c_4, if_neg c_14_0, if_neg c_14_1, if_pos c_14_2]; done) | (rw []; simp [a_room, aC, c_4, c_14_0, c_14_1, c_14_2]; done) | (simp [a_room, aC, c_4, c_14_0, c_14_1, c_14_2, xs_self]; done))), hS.F ht⟩) hS.2.2 dX0_room_75
    by_cases c_14_3 : w = 3
    · skip
      refine lv_tableIn (off := 62) (tgt := 76) hx hb dX0_room_14 (by rw [c_14_3]; decide) (by rw [c_14_3]; decide) (by rw [c_14_3]; rfl) (by decide) ?_
      refine lv_aload_n hx hb dX0_room_76 rfl (lv_at hl 0 rfl) ?_
      refine r_get (C := RX0) (T := TX0) (N := 11) hx hb hts in_X0 hown hK hI (cf_main) rfl 3 (by decide) (hts _ q401) (fun _ h => h) rfl dX0_room_77 ?_
      refine lv_iload_n hx hb dX0_room_80 rfl (lv_at hl 1 rfl) ?_
      refine c_r (k_V (As := [.int r]) (rest := []) F (k_X4_saidIn x 0 (by decide) (hO) r) (cwV 1 hts (lw_V q522 q523 q524 q98 q525) rfl rfl rfl (by decide +kernel) ⟨Nat.le_of_ble_eq_true rfl, Nat.le_of_ble_eq_true rfl⟩) hI hK (hw.recv hI hK (cf_W (w := 0) (by decide)) rfl) rfl hl.1 rfl (Nat.le_of_ble_eq_true rfl) dX0_room_81 ⟨Nat.le_of_ble_eq_true rfl, Nat.le_of_ble_eq_true rfl⟩) ?_
      exact W.iret hx hb hr (fun t ht _ => ⟨rI (by first | (simp only [a_room, aR, if_neg c_4, if_neg c_14_0, if_neg c_14_1, if_neg c_14_2, if_pos c_14_3]; done) | (simp [a_room, aR, c_4, c_14_0, c_14_1, c_14_2, c_14_3]; done)), by rw [ht]; exact hw_eq hI (congrArg (cfC D L) (by first | (rw []; simp only [a_room, aC, if_neg c_4, if_neg c_14_0, if_neg c_14_1, if_neg c_14_2, if_pos c_14_3]; done) | (simp only [a_room, aC, xs_self, if_neg c_4, if_neg c_14_0, if_neg c_14_1, if_neg c_14_2, if_pos c_14_3]; done) | (rw []; simp [a_room, aC, c_4, c_14_0, c_14_1, c_14_2, c_14_3]; done) | (simp [a_room, aC, c_4, c_14_0, c_14_1, c_14_2, c_14_3, xs_self]; done))), hS.F ht⟩) hS.2.2 dX0_room_84
    refine lv_tableOut (tgt := 85) hx hb dX0_room_14 (by have n0 := lv_neT c_14_0 (a := 0) (by decide); have n1 := lv_neT c_14_1 (a := 1) (by decide); have n2 := lv_neT c_14_2 (a := 2) (by decide); have n3 := lv_neT c_14_3 (a := 3) (by decide); omega) (by decide) ?_
    refine lv_aload_n hx hb dX0_room_85 rfl (lv_at hl 0 rfl) ?_
    refine lv_iconst (v := 0) hx hb dX0_room_86 (by decide) ?_
    refine c_m (k_V (As := [.int 0]) (rest := []) F (k_X0_finding x 0 (by decide)) (cwV 1 hts (lw_V q457 q459 qs2 q91 q460) rfl rfl rfl (by decide +kernel) ⟨Nat.le_of_ble_eq_true rfl, Nat.le_of_ble_eq_true rfl⟩) hI hK (hw.recv hI hK (cf_main) rfl) rfl hl.1 rfl (Nat.le_of_ble_eq_true rfl) dX0_room_87 ⟨Nat.le_of_ble_eq_true rfl, Nat.le_of_ble_eq_true rfl⟩) hS (fun H1 locs1 hI hS => ?_)
    obtain ⟨x1, ex1⟩ : ∃ z, z = (fnd x 0) := ⟨_, rfl⟩
    rw [← ex1] at hI
    exact W.iret hx hb hr (fun t ht _ => ⟨rI (by first | (simp only [a_room, aR, if_neg c_4, if_neg c_14_0, if_neg c_14_1, if_neg c_14_2, if_neg c_14_3]; done) | (simp [a_room, aR, c_4, c_14_0, c_14_1, c_14_2, c_14_3]; done)), by rw [ht]; exact hw_eq hI (congrArg (cfC D L) (by first | (rw [ex1]; simp only [a_room, aC, if_neg c_4, if_neg c_14_0, if_neg c_14_1, if_neg c_14_2, if_neg c_14_3]; done) | (simp only [a_room, aC, xs_self, if_neg c_4, if_neg c_14_0, if_neg c_14_1, if_neg c_14_2, if_neg c_14_3]; done) | (rw [ex1]; simp [a_room, aC, c_4, c_14_0, c_14_1, c_14_2, c_14_3]; done) | (simp [a_room, aC, c_4, c_14_0, c_14_1, c_14_2, c_14_3, xs_self]; done))), hS.F ht⟩) hS.2.2 dX0_room_90
  · skip
    refine lv_aload_n hx hb dX0_room_7 rfl (lv_at hl 0 rfl) ?_
    refine lv_iconst (v := 0) hx hb dX0_room_8 (by decide) ?_
    refine c_m (k_V (As := [.int 0]) (rest := []) F (k_X0_finding x 0 (by decide)) (cwV 1 hts (lw_V q457 q459 qs2 q91 q460) rfl rfl rfl (by decide +kernel) ⟨Nat.le_of_ble_eq_true rfl, Nat.le_of_ble_eq_true rfl⟩) hI hK (hw.recv hI hK (cf_main) rfl) rfl hl.1 rfl (Nat.le_of_ble_eq_true rfl) dX0_room_9 ⟨Nat.le_of_ble_eq_true rfl, Nat.le_of_ble_eq_true rfl⟩) hS (fun H1 locs1 hI hS => ?_)
    obtain ⟨x2, ex2⟩ : ∃ z, z = (fnd x 0) := ⟨_, rfl⟩
    rw [← ex2] at hI
    exact W.iret hx hb hr (fun t ht _ => ⟨rI (by first | (simp only [a_room, aR, if_pos c_4]; done) | (simp [a_room, aR, c_4]; done)), by rw [ht]; exact hw_eq hI (congrArg (cfC D L) (by first | (rw [ex2]; simp only [a_room, aC, if_pos c_4]; done) | (simp only [a_room, aC, xs_self, if_pos c_4]; done) | (rw [ex2]; simp [a_room, aC, c_4]; done) | (simp [a_room, aC, c_4, xs_self]; done))), hS.F ht⟩) hS.2.2 dX0_room_12
theorem k_X0_glove {l : Launch} {D : va_G} {L : Nat → Nat} {A : Nat → Prop} (x : cst) (hO : wOk (x.1 0)) (k r : Int32) : Met l yX0_glove (ws_ yX0_glove cX0_glove 3 (some .int)) ({ frames := 2, cells := 0, slots := 0, locals := 42 } : Room) (va_Pc [.ref (L 44), .int k, .int r] (pI D (cfC D L x) A)) (nQ D (cfC D L (aC x (a_glove (x.1 0) k r))) A (some (.int (aR (a_glove (x.1 0) k r))))) 0 0 A := by
  refine met_I (by decide) rfl (Nat.le_of_ble_eq_true rfl) ?_
  intro p e s m below meth c ls hx hb hr hml hown hts hlocks hl hI hK
  have F : CallFix p m c cX0_glove 3 s _ lw_all RX0 := ⟨hx, hb, hml, hown, hts⟩
  have hl : lv_has ls 3 [(0, .ref (L 44)), (1, .int k), (2, .int r)] := hl
  have hS : va_S A s.heap s.heap [] := va_S.rf
  obtain ⟨n, hn, h8⟩ : ∃ n, x.1 0 1 0 = nI n ∧ n ≤ 8 := ⟨_, hO.n⟩
  have hN : wN (x.1 0) = n := by unfold wN; rw [hn, nI_clamp (by omega)]
  refine lv_iload_n hx hb dX0_glove_0 rfl (lv_at hl 1 rfl) ?_
  refine c_r (k_S (As := [.int k]) (rest := []) F (k_X0_isKind k) (va_cwS 1 hts (lw_S q532 q533 q91 q534) rfl rfl rfl (by decide +kernel) ⟨Nat.le_of_ble_eq_true rfl, Nat.le_of_ble_eq_true rfl⟩) rfl hl.1 rfl (Nat.le_of_ble_eq_true rfl) dX0_glove_1 ⟨Nat.le_of_ble_eq_true rfl, Nat.le_of_ble_eq_true rfl⟩) ?_
  refine lv_if_eq (tgt := 14) hx hb dX0_glove_4 (by decide) (fun c_4 => ?_) (fun c_4 => ?_)
  · skip
    refine lv_aload_n hx hb dX0_glove_14 rfl (lv_at hl 0 rfl) ?_
    refine lv_iconst (v := 0) hx hb dX0_glove_15 (by decide) ?_
    refine c_m (k_V (As := [.int 0]) (rest := []) F (k_X0_finding x 0 (by decide)) (cwV 1 hts (lw_V q457 q459 qs2 q91 q460) rfl rfl rfl (by decide +kernel) ⟨Nat.le_of_ble_eq_true rfl, Nat.le_of_ble_eq_true rfl⟩) hI hK (hw.recv hI hK (cf_main) rfl) rfl hl.1 rfl (Nat.le_of_ble_eq_true rfl) dX0_glove_16 ⟨Nat.le_of_ble_eq_true rfl, Nat.le_of_ble_eq_true rfl⟩) hS (fun H1 locs1 hI hS => ?_)
    obtain ⟨x1, ex1⟩ : ∃ z, z = (fnd x 0) := ⟨_, rfl⟩
    rw [← ex1] at hI
    exact W.iret hx hb hr (fun t ht _ => ⟨rI (by first | (simp [a_glove, aR, c_4]; done) | (rw [ex1, xs_at]; simp only [a_glove, aR, c_4]; simp [addw, u2_at, nI_pred])), by rw [ht]; exact hw_eq hI (congrArg (cfC D L) (by first | (rw [ex1]; simp only [a_glove, aC, if_pos c_4]; done) | (simp only [a_glove, aC, xs_self, if_pos c_4]; done) | (rw [ex1]; simp [a_glove, aC, c_4]; done) | (simp [a_glove, aC, c_4, xs_self]; done))), hS.F ht⟩) hS.2.2 dX0_glove_19
  · skip
    refine lv_iload_n hx hb dX0_glove_7 rfl (lv_at hl 2 rfl) ?_
    refine c_r (k_S (As := [.int r]) (rest := []) F (k_X0_isRoom r) (va_cwS 1 hts (lw_S q448 q449 q91 q450) rfl rfl rfl (by decide +kernel) ⟨Nat.le_of_ble_eq_true rfl, Nat.le_of_ble_eq_true rfl⟩) rfl hl.1 rfl (Nat.le_of_ble_eq_true rfl) dX0_glove_8 ⟨Nat.le_of_ble_eq_true rfl, Nat.le_of_ble_eq_true rfl⟩) ?_
    refine lv_if_ne (tgt := 20) hx hb dX0_glove_11 (by decide) (fun c_11 => ?_) (fun c_11 => ?_)
    · skip
      refine lv_aload_n hx hb dX0_glove_20 rfl (lv_at hl 0 rfl) ?_
      refine r_get (C := RX0) (T := TX0) (N := 11) hx hb hts in_X0 hown hK hI (cf_main) rfl 3 (by decide) (hts _ q401) (fun _ h => h) rfl dX0_glove_21 ?_
      refine r_getN (C := RX4) (T := TX4) (N := 7) hx hb hts in_X4 hown hK hI (cf_W (w := 0) (by decide)) rfl 1 (by decide) (nf_4 hK) (fun _ h => h) rfl dX0_glove_24 ?_
      refine lv_bipush (v := 8) hx hb dX0_glove_27 (by decide) ?_
      refine lv_icmp_ne (tgt := 38) hx hb dX0_glove_29 (by decide) (fun c_29 => ?_) (fun c_29 => ?_)
      · skip
        have h7 : wN (x.1 0) < 8 := by rw [hN]; exact Nat.lt_of_le_of_ne h8 (fun q => c_29 (by rw [hn, q]; rfl))
        refine lv_aload_n hx hb dX0_glove_38 rfl (lv_at hl 0 rfl) ?_
        refine r_get (C := RX0) (T := TX0) (N := 11) hx hb hts in_X0 hown hK hI (cf_main) rfl 3 (by decide) (hts _ q401) (fun _ h => h) rfl dX0_glove_39 ?_
        refine lv_iload_n hx hb dX0_glove_42 rfl (lv_at hl 1 rfl) ?_
        refine lv_iload_n hx hb dX0_glove_43 rfl (lv_at hl 2 rfl) ?_
        refine c_m (k_V (As := [.int k, .int r]) (rest := []) F (k_X4_add x 0 (by decide) (hO) k r (by omega)) (cwV 2 hts (lw_V q535 q536 q537 q98 q538) rfl rfl rfl (by decide +kernel) ⟨Nat.le_of_ble_eq_true rfl, Nat.le_of_ble_eq_true rfl⟩) hI hK (hw.recv hI hK (cf_W (w := 0) (by decide)) rfl) rfl hl.1 rfl (Nat.le_of_ble_eq_true rfl) dX0_glove_44 ⟨Nat.le_of_ble_eq_true rfl, Nat.le_of_ble_eq_true rfl⟩) hS (fun H1 locs1 hI hS => ?_)
        obtain ⟨x2, ex2⟩ : ∃ z, z = xs x 0 (addw (x.1 0) k r) := ⟨_, rfl⟩
        rw [← ex2] at hI
        refine lv_aload_n hx hb dX0_glove_47 rfl (lv_at hl 0 rfl) ?_
        refine r_get (C := RX0) (T := TX0) (N := 11) hx hb hts in_X0 hown hK hI (cf_main) rfl 3 (by decide) (hts _ q401) (fun _ h => h) rfl dX0_glove_48 ?_
        refine r_getN (C := RX4) (T := TX4) (N := 7) hx hb hts in_X4 hown hK hI (cf_W (w := 0) (by decide)) rfl 1 (by decide) (nf_4 hK) (fun _ h => h) rfl dX0_glove_51 ?_
        refine lv_iconst (v := 1) hx hb dX0_glove_54 (by decide) ?_
        refine lv_isub hx hb dX0_glove_55 ?_
        exact W.iret hx hb hr (fun t ht _ => ⟨rI (by first | (simp [a_glove, aR, c_4, c_11, c_29]; done) | (rw [ex2, xs_at]; simp only [a_glove, aR, c_4, c_11, c_29]; simp [addw, u2_at, nI_pred])), by rw [ht]; exact hw_eq hI (congrArg (cfC D L) (by first | (rw [ex2]; simp only [a_glove, aC, if_neg c_4, if_neg c_11, if_neg c_29]; done) | (simp only [a_glove, aC, xs_self, if_neg c_4, if_neg c_11, if_neg c_29]; done) | (rw [ex2]; simp [a_glove, aC, c_4, c_11, c_29]; done) | (simp [a_glove, aC, c_4, c_11, c_29, xs_self]; done))), hS.F ht⟩) hS.2.2 dX0_glove_56
      · skip
        refine lv_aload_n hx hb dX0_glove_32 rfl (lv_at hl 0 rfl) ?_
        refine lv_iconst (v := 1) hx hb dX0_glove_33 (by decide) ?_
        refine c_m (k_V (As := [.int 1]) (rest := []) F (k_X0_finding x 1 (by decide)) (cwV 1 hts (lw_V q457 q459 qs2 q91 q460) rfl rfl rfl (by decide +kernel) ⟨Nat.le_of_ble_eq_true rfl, Nat.le_of_ble_eq_true rfl⟩) hI hK (hw.recv hI hK (cf_main) rfl) rfl hl.1 rfl (Nat.le_of_ble_eq_true rfl) dX0_glove_34 ⟨Nat.le_of_ble_eq_true rfl, Nat.le_of_ble_eq_true rfl⟩) hS (fun H1 locs1 hI hS => ?_)
        obtain ⟨x3, ex3⟩ : ∃ z, z = (fnd x 1) := ⟨_, rfl⟩
        rw [← ex3] at hI
        exact W.iret hx hb hr (fun t ht _ => ⟨rI (by first | (simp [a_glove, aR, c_4, c_11, c_29]; done) | (rw [ex3, xs_at]; simp only [a_glove, aR, c_4, c_11, c_29]; simp [addw, u2_at, nI_pred])), by rw [ht]; exact hw_eq hI (congrArg (cfC D L) (by first | (rw [ex3]; simp only [a_glove, aC, if_neg c_4, if_neg c_11, if_pos c_29]; done) | (simp only [a_glove, aC, xs_self, if_neg c_4, if_neg c_11, if_pos c_29]; done) | (rw [ex3]; simp [a_glove, aC, c_4, c_11, c_29]; done) | (simp [a_glove, aC, c_4, c_11, c_29, xs_self]; done))), hS.F ht⟩) hS.2.2 dX0_glove_37
    · skip
      refine lv_aload_n hx hb dX0_glove_14 rfl (lv_at hl 0 rfl) ?_
      refine lv_iconst (v := 0) hx hb dX0_glove_15 (by decide) ?_
      refine c_m (k_V (As := [.int 0]) (rest := []) F (k_X0_finding x 0 (by decide)) (cwV 1 hts (lw_V q457 q459 qs2 q91 q460) rfl rfl rfl (by decide +kernel) ⟨Nat.le_of_ble_eq_true rfl, Nat.le_of_ble_eq_true rfl⟩) hI hK (hw.recv hI hK (cf_main) rfl) rfl hl.1 rfl (Nat.le_of_ble_eq_true rfl) dX0_glove_16 ⟨Nat.le_of_ble_eq_true rfl, Nat.le_of_ble_eq_true rfl⟩) hS (fun H1 locs1 hI hS => ?_)
      obtain ⟨x4, ex4⟩ : ∃ z, z = (fnd x 0) := ⟨_, rfl⟩
      rw [← ex4] at hI
      exact W.iret hx hb hr (fun t ht _ => ⟨rI (by first | (simp [a_glove, aR, c_4, c_11]; done) | (rw [ex4, xs_at]; simp only [a_glove, aR, c_4, c_11]; simp [addw, u2_at, nI_pred])), by rw [ht]; exact hw_eq hI (congrArg (cfC D L) (by first | (rw [ex4]; simp only [a_glove, aC, if_neg c_4, if_pos c_11]; done) | (simp only [a_glove, aC, xs_self, if_neg c_4, if_pos c_11]; done) | (rw [ex4]; simp [a_glove, aC, c_4, c_11]; done) | (simp [a_glove, aC, c_4, c_11, xs_self]; done))), hS.F ht⟩) hS.2.2 dX0_glove_19
theorem k_X0_of {l : Launch} {D : va_G} {L : Nat → Nat} {A : Nat → Prop} (x : cst) (hO : wOk (x.1 0)) (g w : Int32) : Met l yX0_of (ws_ yX0_of cX0_of 3 (some .int)) ({ frames := 4, cells := 0, slots := 0, locals := 82 } : Room) (va_Pc [.ref (L 44), .int g, .int w] (pI D (cfC D L x) A)) (nQ D (cfC D L (aC x (a_of (x.1 0) g w))) A (some (.int (aR (a_of (x.1 0) g w))))) 0 0 A := by
  refine met_I (by decide) rfl (Nat.le_of_ble_eq_true rfl) ?_
  intro p e s m below meth c ls hx hb hr hml hown hts hlocks hl hI hK
  have F : CallFix p m c cX0_of 3 s _ lw_all RX0 := ⟨hx, hb, hml, hown, hts⟩
  have hl : lv_has ls 3 [(0, .ref (L 44)), (1, .int g), (2, .int w)] := hl
  have hS : va_S A s.heap s.heap [] := va_S.rf
  obtain ⟨n, hn, h8⟩ : ∃ n, x.1 0 1 0 = nI n ∧ n ≤ 8 := ⟨_, hO.n⟩
  have hN : wN (x.1 0) = n := by unfold wN; rw [hn, nI_clamp (by omega)]
  refine lv_aload_n hx hb dX0_of_0 rfl (lv_at hl 0 rfl) ?_
  refine lv_iload_n hx hb dX0_of_1 rfl (lv_at hl 1 rfl) ?_
  refine c_r (k_V (As := [.int g]) (rest := []) F (k_X0_isGlove x g) (cwV 1 hts (lw_V q543 q545 qs5 q91 q546) rfl rfl rfl (by decide +kernel) ⟨Nat.le_of_ble_eq_true rfl, Nat.le_of_ble_eq_true rfl⟩) hI hK (hw.recv hI hK (cf_main) rfl) rfl hl.1 rfl (Nat.le_of_ble_eq_true rfl) dX0_of_2 ⟨Nat.le_of_ble_eq_true rfl, Nat.le_of_ble_eq_true rfl⟩) ?_
  refine lv_if_ne (tgt := 14) hx hb dX0_of_5 (by decide) (fun c_5 => ?_) (fun c_5 => ?_)
  · skip
    obtain ⟨k, hk, eg⟩ := isGl_to hn h8 c_5
    have eg2 : g.toNatClampNeg = k := by rw [eg, nI_clamp (by omega)]
    subst eg
    refine lv_iload_n hx hb dX0_of_14 rfl (lv_at hl 2 rfl) ?_
    refine lv_iconst (v := 1) hx hb dX0_of_15 (by decide) ?_
    refine lv_bipush (v := 6) hx hb dX0_of_16 (by decide) ?_
    refine c_r (k_S (As := [.int w, .int 1, .int 6]) (rest := []) F (k_X0_in w 1 6) (va_cwS 3 hts (lw_S q439 q440 q91 q441) rfl rfl rfl (by decide +kernel) ⟨Nat.le_of_ble_eq_true rfl, Nat.le_of_ble_eq_true rfl⟩) rfl hl.1 rfl (Nat.le_of_ble_eq_true rfl) dX0_of_18 ⟨Nat.le_of_ble_eq_true rfl, Nat.le_of_ble_eq_true rfl⟩) ?_
    refine lv_if_eq (tgt := 36) hx hb dX0_of_21 (by decide) (fun c_21 => ?_) (fun c_21 => ?_)
    · skip
      refine lv_iload_n hx hb dX0_of_36 rfl (lv_at hl 2 rfl) ?_
      by_cases c_37_0 : w = 0
      · skip
        refine lv_tableIn (off := 59) (tgt := 96) hx hb dX0_of_37 (by rw [c_37_0]; decide) (by rw [c_37_0]; decide) (by rw [c_37_0]; rfl) (by decide) ?_
        refine lv_aload_n hx hb dX0_of_96 rfl (lv_at hl 0 rfl) ?_
        refine lv_iload_n hx hb dX0_of_97 rfl (lv_at hl 1 rfl) ?_
        refine c_r (k_V (As := [.int (nI k)]) (rest := []) F (k_X0_gloveOf x k (kN (x.1 0) k) (hO.k (k := k) (by omega)).2 (by omega) ((hO.k (k := k) (by omega)).1)) (cwV 1 hts (lw_V q482 q484 qs4 q91 q485) rfl rfl rfl (by decide +kernel) ⟨Nat.le_of_ble_eq_true rfl, Nat.le_of_ble_eq_true rfl⟩) hI hK (hw.recv hI hK (cf_main) rfl) rfl hl.1 rfl (Nat.le_of_ble_eq_true rfl) dX0_of_98 ⟨Nat.le_of_ble_eq_true rfl, Nat.le_of_ble_eq_true rfl⟩) ?_
        refine c_r (run_kind (rest := []) F (hO.k (k := k) (by omega)).2 (by omega) hI hK hl.1 (Nat.le_of_ble_eq_true rfl) dX0_of_101 ⟨Nat.le_of_ble_eq_true rfl, Nat.le_of_ble_eq_true rfl⟩ ⟨Nat.le_of_ble_eq_true rfl, Nat.le_of_ble_eq_true rfl⟩) ?_
        exact W.iret hx hb hr (fun t ht _ => ⟨rI (by first | (simp only [a_of, aR, if_neg c_5, eg2, if_pos c_21, if_pos c_37_0]; done) | (simp [a_of, aR, c_5, eg2, c_21, c_37_0]; done)), by rw [ht]; exact hw_eq hI (congrArg (cfC D L) (by first | (rw []; simp only [a_of, aC, if_neg c_5, eg2, if_pos c_21, if_pos c_37_0]; done) | (simp only [a_of, aC, xs_self, if_neg c_5, eg2, if_pos c_21, if_pos c_37_0]; done) | (rw []; simp [a_of, aC, c_5, eg2, c_21, c_37_0]; done) | (simp [a_of, aC, c_5, eg2, c_21, c_37_0, xs_self]; done))), hS.F ht⟩) hS.2.2 dX0_of_104
      by_cases c_37_1 : w = 1
      · skip
        exact absurd c_21 (by rw [c_37_1]; decide)
      by_cases c_37_2 : w = 2
      · skip
        exact absurd c_21 (by rw [c_37_2]; decide)
      by_cases c_37_3 : w = 3
      · skip
        exact absurd c_21 (by rw [c_37_3]; decide)
      by_cases c_37_4 : w = 4
      · skip
        exact absurd c_21 (by rw [c_37_4]; decide)
      by_cases c_37_5 : w = 5
      · skip
        exact absurd c_21 (by rw [c_37_5]; decide)
      by_cases c_37_6 : w = 6
      · skip
        exact absurd c_21 (by rw [c_37_6]; decide)
      by_cases c_37_7 : w = 7
      · skip
        refine lv_tableIn (off := 68) (tgt := 105) hx hb dX0_of_37 (by rw [c_37_7]; decide) (by rw [c_37_7]; decide) (by rw [c_37_7]; rfl) (by decide) ?_
        refine lv_aload_n hx hb dX0_of_105 rfl (lv_at hl 0 rfl) ?_
        refine lv_iload_n hx hb dX0_of_106 rfl (lv_at hl 1 rfl) ?_
        refine c_r (k_V (As := [.int (nI k)]) (rest := []) F (k_X0_gloveOf x k (kN (x.1 0) k) (hO.k (k := k) (by omega)).2 (by omega) ((hO.k (k := k) (by omega)).1)) (cwV 1 hts (lw_V q482 q484 qs4 q91 q485) rfl rfl rfl (by decide +kernel) ⟨Nat.le_of_ble_eq_true rfl, Nat.le_of_ble_eq_true rfl⟩) hI hK (hw.recv hI hK (cf_main) rfl) rfl hl.1 rfl (Nat.le_of_ble_eq_true rfl) dX0_of_107 ⟨Nat.le_of_ble_eq_true rfl, Nat.le_of_ble_eq_true rfl⟩) ?_
        refine c_r (run_needs (rest := []) F (hO.k (k := k) (by omega)).2 (by omega) hI hK (hO) hl.1 (Nat.le_of_ble_eq_true rfl) dX0_of_110 ⟨Nat.le_of_ble_eq_true rfl, Nat.le_of_ble_eq_true rfl⟩ ⟨Nat.le_of_ble_eq_true rfl, Nat.le_of_ble_eq_true rfl⟩) ?_
        exact W.iret hx hb hr (fun t ht _ => ⟨rI (by first | (simp only [a_of, aR, if_neg c_5, eg2, if_pos c_21, if_neg c_37_0, if_neg c_37_1, if_neg c_37_2, if_neg c_37_3, if_neg c_37_4, if_neg c_37_5, if_neg c_37_6, if_pos c_37_7]; done) | (simp [a_of, aR, c_5, eg2, c_21, c_37_0, c_37_1, c_37_2, c_37_3, c_37_4, c_37_5, c_37_6, c_37_7]; done)), by rw [ht]; exact hw_eq hI (congrArg (cfC D L) (by first | (rw []; simp only [a_of, aC, if_neg c_5, eg2, if_pos c_21, if_neg c_37_0, if_neg c_37_1, if_neg c_37_2, if_neg c_37_3, if_neg c_37_4, if_neg c_37_5, if_neg c_37_6, if_pos c_37_7]; done) | (simp only [a_of, aC, xs_self, if_neg c_5, eg2, if_pos c_21, if_neg c_37_0, if_neg c_37_1, if_neg c_37_2, if_neg c_37_3, if_neg c_37_4, if_neg c_37_5, if_neg c_37_6, if_pos c_37_7]; done) | (rw []; simp [a_of, aC, c_5, eg2, c_21, c_37_0, c_37_1, c_37_2, c_37_3, c_37_4, c_37_5, c_37_6, c_37_7]; done) | (simp [a_of, aC, c_5, eg2, c_21, c_37_0, c_37_1, c_37_2, c_37_3, c_37_4, c_37_5, c_37_6, c_37_7, xs_self]; done))), hS.F ht⟩) hS.2.2 dX0_of_113
      by_cases c_37_8 : w = 8
      · skip
        refine lv_tableIn (off := 77) (tgt := 114) hx hb dX0_of_37 (by rw [c_37_8]; decide) (by rw [c_37_8]; decide) (by rw [c_37_8]; rfl) (by decide) ?_
        refine lv_aload_n hx hb dX0_of_114 rfl (lv_at hl 0 rfl) ?_
        refine lv_iload_n hx hb dX0_of_115 rfl (lv_at hl 1 rfl) ?_
        refine c_r (k_V (As := [.int (nI k)]) (rest := []) F (k_X0_gloveOf x k (kN (x.1 0) k) (hO.k (k := k) (by omega)).2 (by omega) ((hO.k (k := k) (by omega)).1)) (cwV 1 hts (lw_V q482 q484 qs4 q91 q485) rfl rfl rfl (by decide +kernel) ⟨Nat.le_of_ble_eq_true rfl, Nat.le_of_ble_eq_true rfl⟩) hI hK (hw.recv hI hK (cf_main) rfl) rfl hl.1 rfl (Nat.le_of_ble_eq_true rfl) dX0_of_116 ⟨Nat.le_of_ble_eq_true rfl, Nat.le_of_ble_eq_true rfl⟩) ?_
        refine c_r (run_hushes (rest := []) F (hO.k (k := k) (by omega)).2 (by omega) hI hK hl.1 (Nat.le_of_ble_eq_true rfl) dX0_of_119 ⟨Nat.le_of_ble_eq_true rfl, Nat.le_of_ble_eq_true rfl⟩ ⟨Nat.le_of_ble_eq_true rfl, Nat.le_of_ble_eq_true rfl⟩) ?_
        exact W.iret hx hb hr (fun t ht _ => ⟨rI (by first | (simp only [a_of, aR, if_neg c_5, eg2, if_pos c_21, if_neg c_37_0, if_neg c_37_1, if_neg c_37_2, if_neg c_37_3, if_neg c_37_4, if_neg c_37_5, if_neg c_37_6, if_neg c_37_7, if_pos c_37_8]; done) | (simp [a_of, aR, c_5, eg2, c_21, c_37_0, c_37_1, c_37_2, c_37_3, c_37_4, c_37_5, c_37_6, c_37_7, c_37_8]; done)), by rw [ht]; exact hw_eq hI (congrArg (cfC D L) (by first | (rw []; simp only [a_of, aC, if_neg c_5, eg2, if_pos c_21, if_neg c_37_0, if_neg c_37_1, if_neg c_37_2, if_neg c_37_3, if_neg c_37_4, if_neg c_37_5, if_neg c_37_6, if_neg c_37_7, if_pos c_37_8]; done) | (simp only [a_of, aC, xs_self, if_neg c_5, eg2, if_pos c_21, if_neg c_37_0, if_neg c_37_1, if_neg c_37_2, if_neg c_37_3, if_neg c_37_4, if_neg c_37_5, if_neg c_37_6, if_neg c_37_7, if_pos c_37_8]; done) | (rw []; simp [a_of, aC, c_5, eg2, c_21, c_37_0, c_37_1, c_37_2, c_37_3, c_37_4, c_37_5, c_37_6, c_37_7, c_37_8]; done) | (simp [a_of, aC, c_5, eg2, c_21, c_37_0, c_37_1, c_37_2, c_37_3, c_37_4, c_37_5, c_37_6, c_37_7, c_37_8, xs_self]; done))), hS.F ht⟩) hS.2.2 dX0_of_122
      by_cases c_37_9 : w = 9
      · skip
        refine lv_tableIn (off := 86) (tgt := 123) hx hb dX0_of_37 (by rw [c_37_9]; decide) (by rw [c_37_9]; decide) (by rw [c_37_9]; rfl) (by decide) ?_
        refine lv_aload_n hx hb dX0_of_123 rfl (lv_at hl 0 rfl) ?_
        refine lv_iload_n hx hb dX0_of_124 rfl (lv_at hl 1 rfl) ?_
        refine c_r (k_V (As := [.int (nI k)]) (rest := []) F (k_X0_gloveOf x k (kN (x.1 0) k) (hO.k (k := k) (by omega)).2 (by omega) ((hO.k (k := k) (by omega)).1)) (cwV 1 hts (lw_V q482 q484 qs4 q91 q485) rfl rfl rfl (by decide +kernel) ⟨Nat.le_of_ble_eq_true rfl, Nat.le_of_ble_eq_true rfl⟩) hI hK (hw.recv hI hK (cf_main) rfl) rfl hl.1 rfl (Nat.le_of_ble_eq_true rfl) dX0_of_125 ⟨Nat.le_of_ble_eq_true rfl, Nat.le_of_ble_eq_true rfl⟩) ?_
        refine c_r (run_stays (rest := []) F (hO.k (k := k) (by omega)).2 (by omega) hI hK hl.1 (Nat.le_of_ble_eq_true rfl) dX0_of_128 ⟨Nat.le_of_ble_eq_true rfl, Nat.le_of_ble_eq_true rfl⟩ ⟨Nat.le_of_ble_eq_true rfl, Nat.le_of_ble_eq_true rfl⟩) ?_
        exact W.iret hx hb hr (fun t ht _ => ⟨rI (by first | (simp only [a_of, aR, if_neg c_5, eg2, if_pos c_21, if_neg c_37_0, if_neg c_37_1, if_neg c_37_2, if_neg c_37_3, if_neg c_37_4, if_neg c_37_5, if_neg c_37_6, if_neg c_37_7, if_neg c_37_8, if_pos c_37_9]; done) | (simp [a_of, aR, c_5, eg2, c_21, c_37_0, c_37_1, c_37_2, c_37_3, c_37_4, c_37_5, c_37_6, c_37_7, c_37_8, c_37_9]; done)), by rw [ht]; exact hw_eq hI (congrArg (cfC D L) (by first | (rw []; simp only [a_of, aC, if_neg c_5, eg2, if_pos c_21, if_neg c_37_0, if_neg c_37_1, if_neg c_37_2, if_neg c_37_3, if_neg c_37_4, if_neg c_37_5, if_neg c_37_6, if_neg c_37_7, if_neg c_37_8, if_pos c_37_9]; done) | (simp only [a_of, aC, xs_self, if_neg c_5, eg2, if_pos c_21, if_neg c_37_0, if_neg c_37_1, if_neg c_37_2, if_neg c_37_3, if_neg c_37_4, if_neg c_37_5, if_neg c_37_6, if_neg c_37_7, if_neg c_37_8, if_pos c_37_9]; done) | (rw []; simp [a_of, aC, c_5, eg2, c_21, c_37_0, c_37_1, c_37_2, c_37_3, c_37_4, c_37_5, c_37_6, c_37_7, c_37_8, c_37_9]; done) | (simp [a_of, aC, c_5, eg2, c_21, c_37_0, c_37_1, c_37_2, c_37_3, c_37_4, c_37_5, c_37_6, c_37_7, c_37_8, c_37_9, xs_self]; done))), hS.F ht⟩) hS.2.2 dX0_of_131
      by_cases c_37_10 : w = 10
      · skip
        refine lv_tableIn (off := 95) (tgt := 132) hx hb dX0_of_37 (by rw [c_37_10]; decide) (by rw [c_37_10]; decide) (by rw [c_37_10]; rfl) (by decide) ?_
        refine lv_aload_n hx hb dX0_of_132 rfl (lv_at hl 0 rfl) ?_
        refine lv_iload_n hx hb dX0_of_133 rfl (lv_at hl 1 rfl) ?_
        refine c_r (k_V (As := [.int (nI k)]) (rest := []) F (k_X0_gloveOf x k (kN (x.1 0) k) (hO.k (k := k) (by omega)).2 (by omega) ((hO.k (k := k) (by omega)).1)) (cwV 1 hts (lw_V q482 q484 qs4 q91 q485) rfl rfl rfl (by decide +kernel) ⟨Nat.le_of_ble_eq_true rfl, Nat.le_of_ble_eq_true rfl⟩) hI hK (hw.recv hI hK (cf_main) rfl) rfl hl.1 rfl (Nat.le_of_ble_eq_true rfl) dX0_of_134 ⟨Nat.le_of_ble_eq_true rfl, Nat.le_of_ble_eq_true rfl⟩) ?_
        refine c_r (run_keeps (rest := []) F (hO.k (k := k) (by omega)).2 (by omega) hI hK hl.1 (Nat.le_of_ble_eq_true rfl) dX0_of_137 ⟨Nat.le_of_ble_eq_true rfl, Nat.le_of_ble_eq_true rfl⟩ ⟨Nat.le_of_ble_eq_true rfl, Nat.le_of_ble_eq_true rfl⟩) ?_
        exact W.iret hx hb hr (fun t ht _ => ⟨rI (by first | (simp only [a_of, aR, if_neg c_5, eg2, if_pos c_21, if_neg c_37_0, if_neg c_37_1, if_neg c_37_2, if_neg c_37_3, if_neg c_37_4, if_neg c_37_5, if_neg c_37_6, if_neg c_37_7, if_neg c_37_8, if_neg c_37_9, if_pos c_37_10]; done) | (simp [a_of, aR, c_5, eg2, c_21, c_37_0, c_37_1, c_37_2, c_37_3, c_37_4, c_37_5, c_37_6, c_37_7, c_37_8, c_37_9, c_37_10]; done)), by rw [ht]; exact hw_eq hI (congrArg (cfC D L) (by first | (rw []; simp only [a_of, aC, if_neg c_5, eg2, if_pos c_21, if_neg c_37_0, if_neg c_37_1, if_neg c_37_2, if_neg c_37_3, if_neg c_37_4, if_neg c_37_5, if_neg c_37_6, if_neg c_37_7, if_neg c_37_8, if_neg c_37_9, if_pos c_37_10]; done) | (simp only [a_of, aC, xs_self, if_neg c_5, eg2, if_pos c_21, if_neg c_37_0, if_neg c_37_1, if_neg c_37_2, if_neg c_37_3, if_neg c_37_4, if_neg c_37_5, if_neg c_37_6, if_neg c_37_7, if_neg c_37_8, if_neg c_37_9, if_pos c_37_10]; done) | (rw []; simp [a_of, aC, c_5, eg2, c_21, c_37_0, c_37_1, c_37_2, c_37_3, c_37_4, c_37_5, c_37_6, c_37_7, c_37_8, c_37_9, c_37_10]; done) | (simp [a_of, aC, c_5, eg2, c_21, c_37_0, c_37_1, c_37_2, c_37_3, c_37_4, c_37_5, c_37_6, c_37_7, c_37_8, c_37_9, c_37_10, xs_self]; done))), hS.F ht⟩) hS.2.2 dX0_of_140
      refine lv_tableOut (tgt := 141) hx hb dX0_of_37 (by have n0 := lv_neT c_37_0 (a := 0) (by decide); have n1 := lv_neT c_37_1 (a := 1) (by decide); have n2 := lv_neT c_37_2 (a := 2) (by decide); have n3 := lv_neT c_37_3 (a := 3) (by decide); have n4 := lv_neT c_37_4 (a := 4) (by decide); have n5 := lv_neT c_37_5 (a := 5) (by decide); have n6 := lv_neT c_37_6 (a := 6) (by decide); have n7 := lv_neT c_37_7 (a := 7) (by decide); have n8 := lv_neT c_37_8 (a := 8) (by decide); have n9 := lv_neT c_37_9 (a := 9) (by decide); have n10 := lv_neT c_37_10 (a := 10) (by decide); omega) (by decide) ?_
      refine lv_aload_n hx hb dX0_of_141 rfl (lv_at hl 0 rfl) ?_
      refine lv_iconst (v := 0) hx hb dX0_of_142 (by decide) ?_
      refine c_m (k_V (As := [.int 0]) (rest := []) F (k_X0_finding x 0 (by decide)) (cwV 1 hts (lw_V q457 q459 qs2 q91 q460) rfl rfl rfl (by decide +kernel) ⟨Nat.le_of_ble_eq_true rfl, Nat.le_of_ble_eq_true rfl⟩) hI hK (hw.recv hI hK (cf_main) rfl) rfl hl.1 rfl (Nat.le_of_ble_eq_true rfl) dX0_of_143 ⟨Nat.le_of_ble_eq_true rfl, Nat.le_of_ble_eq_true rfl⟩) hS (fun H1 locs1 hI hS => ?_)
      obtain ⟨x1, ex1⟩ : ∃ z, z = (fnd x 0) := ⟨_, rfl⟩
      rw [← ex1] at hI
      exact W.iret hx hb hr (fun t ht _ => ⟨rI (by first | (simp only [a_of, aR, if_neg c_5, eg2, if_pos c_21, if_neg c_37_0, if_neg c_37_1, if_neg c_37_2, if_neg c_37_3, if_neg c_37_4, if_neg c_37_5, if_neg c_37_6, if_neg c_37_7, if_neg c_37_8, if_neg c_37_9, if_neg c_37_10]; done) | (simp [a_of, aR, c_5, eg2, c_21, c_37_0, c_37_1, c_37_2, c_37_3, c_37_4, c_37_5, c_37_6, c_37_7, c_37_8, c_37_9, c_37_10]; done)), by rw [ht]; exact hw_eq hI (congrArg (cfC D L) (by first | (rw [ex1]; simp only [a_of, aC, if_neg c_5, eg2, if_pos c_21, if_neg c_37_0, if_neg c_37_1, if_neg c_37_2, if_neg c_37_3, if_neg c_37_4, if_neg c_37_5, if_neg c_37_6, if_neg c_37_7, if_neg c_37_8, if_neg c_37_9, if_neg c_37_10]; done) | (simp only [a_of, aC, xs_self, if_neg c_5, eg2, if_pos c_21, if_neg c_37_0, if_neg c_37_1, if_neg c_37_2, if_neg c_37_3, if_neg c_37_4, if_neg c_37_5, if_neg c_37_6, if_neg c_37_7, if_neg c_37_8, if_neg c_37_9, if_neg c_37_10]; done) | (rw [ex1]; simp [a_of, aC, c_5, eg2, c_21, c_37_0, c_37_1, c_37_2, c_37_3, c_37_4, c_37_5, c_37_6, c_37_7, c_37_8, c_37_9, c_37_10]; done) | (simp [a_of, aC, c_5, eg2, c_21, c_37_0, c_37_1, c_37_2, c_37_3, c_37_4, c_37_5, c_37_6, c_37_7, c_37_8, c_37_9, c_37_10, xs_self]; done))), hS.F ht⟩) hS.2.2 dX0_of_146
    · skip
      obtain ⟨r, hr1, hr6, ew⟩ := inI_to1 (a := 1) (b := 6) rfl rfl (by decide) (by decide) c_21
      have ew2 : w.toNatClampNeg = r := by rw [ew, nI_clamp (by omega)]
      subst ew
      refine lv_aload_n hx hb dX0_of_24 rfl (lv_at hl 0 rfl) ?_
      refine r_get (C := RX0) (T := TX0) (N := 11) hx hb hts in_X0 hown hK hI (cf_main) rfl 3 (by decide) (hts _ q401) (fun _ h => h) rfl dX0_of_25 ?_
      refine r_getN (C := RX4) (T := TX4) (N := 7) hx hb hts in_X4 hown hK hI (cf_W (w := 0) (by decide)) rfl 2 (by decide) (nf_7 hK) (fun _ h => h) rfl dX0_of_28 ?_
      refine lv_iload_n hx hb dX0_of_31 rfl (lv_at hl 2 rfl) ?_
      refine n_aaldI (f := fun r => L (11 * 0 + 3 + r)) (k := r) hx hb hK hI (cf_glove (w := 0) (by decide)) (rfl) (by omega) (by decide) dX0_of_32 ?_
      refine lv_iload_n hx hb dX0_of_33 rfl (lv_at hl 1 rfl) ?_
      refine n_iald (k := k) hx hb hK hI (cf_row (w := 0) (r := r) (by decide) (by omega)) (rfl) (by omega) (by decide) dX0_of_34 ?_
      exact W.iret hx hb hr (fun t ht _ => ⟨rI (by first | (simp only [a_of, aR, if_neg c_5, eg2, if_neg c_21, ew2]; done) | (simp [a_of, aR, c_5, eg2, c_21, ew2]; done)), by rw [ht]; exact hw_eq hI (congrArg (cfC D L) (by first | (rw []; simp only [a_of, aC, if_neg c_5, eg2, if_neg c_21, ew2]; done) | (simp only [a_of, aC, xs_self, if_neg c_5, eg2, if_neg c_21, ew2]; done) | (rw []; simp [a_of, aC, c_5, eg2, c_21, ew2]; done) | (simp [a_of, aC, c_5, eg2, c_21, ew2, xs_self]; done))), hS.F ht⟩) hS.2.2 dX0_of_35
  · skip
    refine lv_aload_n hx hb dX0_of_8 rfl (lv_at hl 0 rfl) ?_
    refine lv_iconst (v := 0) hx hb dX0_of_9 (by decide) ?_
    refine c_m (k_V (As := [.int 0]) (rest := []) F (k_X0_finding x 0 (by decide)) (cwV 1 hts (lw_V q457 q459 qs2 q91 q460) rfl rfl rfl (by decide +kernel) ⟨Nat.le_of_ble_eq_true rfl, Nat.le_of_ble_eq_true rfl⟩) hI hK (hw.recv hI hK (cf_main) rfl) rfl hl.1 rfl (Nat.le_of_ble_eq_true rfl) dX0_of_10 ⟨Nat.le_of_ble_eq_true rfl, Nat.le_of_ble_eq_true rfl⟩) hS (fun H1 locs1 hI hS => ?_)
    obtain ⟨x2, ex2⟩ : ∃ z, z = (fnd x 0) := ⟨_, rfl⟩
    rw [← ex2] at hI
    exact W.iret hx hb hr (fun t ht _ => ⟨rI (by first | (simp only [a_of, aR, if_pos c_5]; done) | (simp [a_of, aR, c_5]; done)), by rw [ht]; exact hw_eq hI (congrArg (cfC D L) (by first | (rw [ex2]; simp only [a_of, aC, if_pos c_5]; done) | (simp only [a_of, aC, xs_self, if_pos c_5]; done) | (rw [ex2]; simp [a_of, aC, c_5]; done) | (simp [a_of, aC, c_5, xs_self]; done))), hS.F ht⟩) hS.2.2 dX0_of_13
theorem k_X0_change {l : Launch} {D : va_G} {L : Nat → Nat} {A : Nat → Prop} (x : cst) (hO : wOk (x.1 0)) (g w v : Int32) : Met l yX0_change (ws_ yX0_change cX0_change 5 (some .int)) ({ frames := 3, cells := 0, slots := 0, locals := 63 } : Room) (va_Pc [.ref (L 44), .int g, .int w, .int v] (pI D (cfC D L x) A)) (nQ D (cfC D L (aC x (a_change (x.1 0) g w v))) A (some (.int (aR (a_change (x.1 0) g w v))))) 0 0 A := by
  refine met_I (by decide) rfl (Nat.le_of_ble_eq_true rfl) ?_
  intro p e s m below meth c ls hx hb hr hml hown hts hlocks hl hI hK
  have F : CallFix p m c cX0_change 5 s _ lw_all RX0 := ⟨hx, hb, hml, hown, hts⟩
  have hl : lv_has ls 5 [(0, .ref (L 44)), (1, .int g), (2, .int w), (3, .int v)] := hl
  have hS : va_S A s.heap s.heap [] := va_S.rf
  obtain ⟨n, hn, h8⟩ : ∃ n, x.1 0 1 0 = nI n ∧ n ≤ 8 := ⟨_, hO.n⟩
  have hN : wN (x.1 0) = n := by unfold wN; rw [hn, nI_clamp (by omega)]
  refine lv_aload_n hx hb dX0_change_0 rfl (lv_at hl 0 rfl) ?_
  refine lv_iload_n hx hb dX0_change_1 rfl (lv_at hl 1 rfl) ?_
  refine c_r (k_V (As := [.int g]) (rest := []) F (k_X0_isGlove x g) (cwV 1 hts (lw_V q543 q545 qs5 q91 q546) rfl rfl rfl (by decide +kernel) ⟨Nat.le_of_ble_eq_true rfl, Nat.le_of_ble_eq_true rfl⟩) hI hK (hw.recv hI hK (cf_main) rfl) rfl hl.1 rfl (Nat.le_of_ble_eq_true rfl) dX0_change_2 ⟨Nat.le_of_ble_eq_true rfl, Nat.le_of_ble_eq_true rfl⟩) ?_
  refine lv_if_eq (tgt := 16) hx hb dX0_change_5 (by decide) (fun c_5 => ?_) (fun c_5 => ?_)
  · skip
    refine lv_aload_n hx hb dX0_change_16 rfl (lv_at hl 0 rfl) ?_
    refine lv_iconst (v := 0) hx hb dX0_change_17 (by decide) ?_
    refine c_m (k_V (As := [.int 0]) (rest := []) F (k_X0_finding x 0 (by decide)) (cwV 1 hts (lw_V q457 q459 qs2 q91 q460) rfl rfl rfl (by decide +kernel) ⟨Nat.le_of_ble_eq_true rfl, Nat.le_of_ble_eq_true rfl⟩) hI hK (hw.recv hI hK (cf_main) rfl) rfl hl.1 rfl (Nat.le_of_ble_eq_true rfl) dX0_change_18 ⟨Nat.le_of_ble_eq_true rfl, Nat.le_of_ble_eq_true rfl⟩) hS (fun H1 locs1 hI hS => ?_)
    obtain ⟨x1, ex1⟩ : ∃ z, z = (fnd x 0) := ⟨_, rfl⟩
    rw [← ex1] at hI
    exact W.iret hx hb hr (fun t ht _ => ⟨rI (by first | (simp only [a_change, aR, if_pos c_5]; done) | (simp [a_change, aR, c_5]; done)), by rw [ht]; exact hw_eq hI (congrArg (cfC D L) (by first | (rw [ex1]; simp only [a_change, aC, if_pos c_5]; done) | (simp only [a_change, aC, xs_self, if_pos c_5]; done) | (rw [ex1]; simp [a_change, aC, c_5]; done) | (simp [a_change, aC, c_5, xs_self]; done))), hS.F ht⟩) hS.2.2 dX0_change_21
  · skip
    refine lv_iload_n hx hb dX0_change_8 rfl (lv_at hl 2 rfl) ?_
    refine lv_iload_n hx hb dX0_change_9 rfl (lv_at hl 3 rfl) ?_
    refine c_r (k_S (As := [.int w, .int v]) (rest := []) F (k_X0_isTold w v) (va_cwS 2 hts (lw_S q666 q667 q91 q668) rfl rfl rfl (by decide +kernel) ⟨Nat.le_of_ble_eq_true rfl, Nat.le_of_ble_eq_true rfl⟩) rfl hl.1 rfl (Nat.le_of_ble_eq_true rfl) dX0_change_10 ⟨Nat.le_of_ble_eq_true rfl, Nat.le_of_ble_eq_true rfl⟩) ?_
    refine lv_if_ne (tgt := 22) hx hb dX0_change_13 (by decide) (fun c_13 => ?_) (fun c_13 => ?_)
    · skip
      obtain ⟨k, hk, eg⟩ := isGl_to hn h8 c_5
      have eg2 : g.toNatClampNeg = k := by rw [eg, nI_clamp (by omega)]
      obtain ⟨r, hr6, ew⟩ := tld_to c_13
      have ew2 : w.toNatClampNeg = r := by rw [ew, nI_clamp (by omega)]
      subst eg
      subst ew
      refine lv_aload_n hx hb dX0_change_22 rfl (lv_at hl 0 rfl) ?_
      refine r_get (C := RX0) (T := TX0) (N := 11) hx hb hts in_X0 hown hK hI (cf_main) rfl 3 (by decide) (hts _ q401) (fun _ h => h) rfl dX0_change_23 ?_
      refine r_getN (C := RX4) (T := TX4) (N := 7) hx hb hts in_X4 hown hK hI (cf_W (w := 0) (by decide)) rfl 2 (by decide) (nf_7 hK) (fun _ h => h) rfl dX0_change_26 ?_
      refine lv_iload_n hx hb dX0_change_29 rfl (lv_at hl 2 rfl) ?_
      refine n_aaldI (f := fun r => L (11 * 0 + 3 + r)) (k := r) hx hb hK hI (cf_glove (w := 0) (by decide)) (rfl) (by omega) (by decide) dX0_change_30 ?_
      refine lv_iload_n hx hb dX0_change_31 rfl (lv_at hl 1 rfl) ?_
      refine n_iald (k := k) hx hb hK hI (cf_row (w := 0) (r := r) (by decide) (by omega)) (rfl) (by omega) (by decide) dX0_change_32 ?_
      refine lv_istore (lv' := [(4, .int (x.1 0 (2 + r) k)), (0, .ref (L 44)), (1, .int (nI k)), (2, .int (nI r)), (3, .int v)]) hx hb dX0_change_33 hl (by decide) rfl (fun ls hl => ?_)
      refine lv_aload_n hx hb dX0_change_35 rfl (lv_at hl 1 rfl) ?_
      refine r_get (C := RX0) (T := TX0) (N := 11) hx hb hts in_X0 hown hK hI (cf_main) rfl 3 (by decide) (hts _ q401) (fun _ h => h) rfl dX0_change_36 ?_
      refine r_getN (C := RX4) (T := TX4) (N := 7) hx hb hts in_X4 hown hK hI (cf_W (w := 0) (by decide)) rfl 2 (by decide) (nf_7 hK) (fun _ h => h) rfl dX0_change_39 ?_
      refine lv_iload_n hx hb dX0_change_42 rfl (lv_at hl 3 rfl) ?_
      refine n_aaldI (f := fun r => L (11 * 0 + 3 + r)) (k := r) hx hb hK hI (cf_glove (w := 0) (by decide)) (rfl) (by omega) (by decide) dX0_change_43 ?_
      refine lv_iload_n hx hb dX0_change_44 rfl (lv_at hl 2 rfl) ?_
      refine lv_iload_n hx hb dX0_change_45 rfl (lv_at hl 4 rfl) ?_
      obtain ⟨x2, ex2⟩ : ∃ z, z = xs x 0 (u2 (x.1 0) (2 + r) k v) := ⟨_, rfl⟩
      have hf_3 : (x2.1 0 1 0) = nI n := by rw [ex2, xs_at, u2_ne (by omega)]; exact hn
      refine n_iast (cf' := cfC D L x2) (k := k) hx hb hK hI hS (cf_row (w := 0) (r := r) (by decide) (by omega)) (rfl) (by omega) (by decide) (by rw [ex2]; exact cs_row (w := 0) (r := r) (by decide) (by omega)) dX0_change_46 (fun H1 locs1 hI hS => ?_)
      refine lv_iload hx hb dX0_change_47 (lv_at hl 0 rfl) ?_
      exact W.iret hx hb hr (fun t ht _ => ⟨rI (by first | (simp only [a_change, aR, if_neg c_5, if_neg c_13, eg2, ew2]; done) | (simp [a_change, aR, c_5, c_13, eg2, ew2]; done)), by rw [ht]; exact hw_eq hI (congrArg (cfC D L) (by first | (rw [ex2]; simp only [a_change, aC, if_neg c_5, if_neg c_13, eg2, ew2]; done) | (simp only [a_change, aC, xs_self, if_neg c_5, if_neg c_13, eg2, ew2]; done) | (rw [ex2]; simp [a_change, aC, c_5, c_13, eg2, ew2]; done) | (simp [a_change, aC, c_5, c_13, eg2, ew2, xs_self]; done))), hS.F ht⟩) hS.2.2 dX0_change_49
    · skip
      refine lv_aload_n hx hb dX0_change_16 rfl (lv_at hl 0 rfl) ?_
      refine lv_iconst (v := 0) hx hb dX0_change_17 (by decide) ?_
      refine c_m (k_V (As := [.int 0]) (rest := []) F (k_X0_finding x 0 (by decide)) (cwV 1 hts (lw_V q457 q459 qs2 q91 q460) rfl rfl rfl (by decide +kernel) ⟨Nat.le_of_ble_eq_true rfl, Nat.le_of_ble_eq_true rfl⟩) hI hK (hw.recv hI hK (cf_main) rfl) rfl hl.1 rfl (Nat.le_of_ble_eq_true rfl) dX0_change_18 ⟨Nat.le_of_ble_eq_true rfl, Nat.le_of_ble_eq_true rfl⟩) hS (fun H1 locs1 hI hS => ?_)
      obtain ⟨x4, ex4⟩ : ∃ z, z = (fnd x 0) := ⟨_, rfl⟩
      rw [← ex4] at hI
      exact W.iret hx hb hr (fun t ht _ => ⟨rI (by first | (simp only [a_change, aR, if_neg c_5, if_pos c_13]; done) | (simp [a_change, aR, c_5, c_13]; done)), by rw [ht]; exact hw_eq hI (congrArg (cfC D L) (by first | (rw [ex4]; simp only [a_change, aC, if_neg c_5, if_pos c_13]; done) | (simp only [a_change, aC, xs_self, if_neg c_5, if_pos c_13]; done) | (rw [ex4]; simp [a_change, aC, c_5, c_13]; done) | (simp [a_change, aC, c_5, c_13, xs_self]; done))), hS.F ht⟩) hS.2.2 dX0_change_21
theorem k_X0_drawnOn {l : Launch} {D : va_G} {L : Nat → Nat} {A : Nat → Prop} (x : cst) (k : Nat) (hk : k < 8) : Met l yX0_drawnOn (ws_ yX0_drawnOn cX0_drawnOn 2 (some .int)) ({ frames := 2, cells := 0, slots := 0, locals := 42 } : Room) (va_Pc [.ref (L 44), .int (nI k)] (pI D (cfC D L x) A)) (nQ D (cfC D L (xs x 0 (isdw (x.1 0) k))) A (some (.int (isdw (x.1 0) k (2 + 5) k)))) 0 0 A := by
  refine met_I (by decide) rfl (Nat.le_of_ble_eq_true rfl) ?_
  intro p e s m below meth c ls hx hb hr hml hown hts hlocks hl hI hK
  have F : CallFix p m c cX0_drawnOn 2 s _ lw_all RX0 := ⟨hx, hb, hml, hown, hts⟩
  have hl : lv_has ls 2 [(0, .ref (L 44)), (1, .int (nI k))] := hl
  have hS : va_S A s.heap s.heap [] := va_S.rf
  refine lv_aload_n hx hb dX0_drawnOn_0 rfl (lv_at hl 0 rfl) ?_
  refine r_get (C := RX0) (T := TX0) (N := 11) hx hb hts in_X0 hown hK hI (cf_main) rfl 3 (by decide) (hts _ q401) (fun _ h => h) rfl dX0_drawnOn_1 ?_
  refine lv_iload_n hx hb dX0_drawnOn_4 rfl (lv_at hl 1 rfl) ?_
  refine c_m (k_V (As := [.int (nI k)]) (rest := []) F (k_X4_isDrawn x 0 (by decide) k (by omega)) (cwV 1 hts (lw_V q681 q682 q683 q98 q684) rfl rfl rfl (by decide +kernel) ⟨Nat.le_of_ble_eq_true rfl, Nat.le_of_ble_eq_true rfl⟩) hI hK (hw.recv hI hK (cf_W (w := 0) (by decide)) rfl) rfl hl.1 rfl (Nat.le_of_ble_eq_true rfl) dX0_drawnOn_5 ⟨Nat.le_of_ble_eq_true rfl, Nat.le_of_ble_eq_true rfl⟩) hS (fun H1 locs1 hI hS => ?_)
  obtain ⟨x1, ex1⟩ : ∃ z, z = xs x 0 (isdw (x.1 0) k) := ⟨_, rfl⟩
  rw [← ex1] at hI
  refine lv_aload_n hx hb dX0_drawnOn_8 rfl (lv_at hl 0 rfl) ?_
  refine r_get (C := RX0) (T := TX0) (N := 11) hx hb hts in_X0 hown hK hI (cf_main) rfl 3 (by decide) (hts _ q401) (fun _ h => h) rfl dX0_drawnOn_9 ?_
  refine r_getN (C := RX4) (T := TX4) (N := 7) hx hb hts in_X4 hown hK hI (cf_W (w := 0) (by decide)) rfl 2 (by decide) (nf_7 hK) (fun _ h => h) rfl dX0_drawnOn_12 ?_
  refine lv_iconst (v := 5) hx hb dX0_drawnOn_15 (by decide) ?_
  refine n_aaldI (f := fun r => L (11 * 0 + 3 + r)) (k := 5) hx hb hK hI (cf_glove (w := 0) (by decide)) (rfl) (by decide) (by decide) dX0_drawnOn_16 ?_
  refine lv_iload_n hx hb dX0_drawnOn_17 rfl (lv_at hl 1 rfl) ?_
  refine n_iald (k := k) hx hb hK hI (cf_row (w := 0) (r := 5) (by decide) (by decide)) (rfl) (by omega) (by decide) dX0_drawnOn_18 ?_
  exact W.iret hx hb hr (fun t ht _ => ⟨rI (by rw [ex1, xs_at]), by rw [ht]; exact hw_eq hI (congrArg (cfC D L) (ex1)), hS.F ht⟩) hS.2.2 dX0_drawnOn_19
theorem k_X0_draw {l : Launch} {D : va_G} {L : Nat → Nat} {A : Nat → Prop} (x : cst) (hO : wOk (x.1 0)) (g : Int32) : Met l yX0_draw (ws_ yX0_draw cX0_draw 2 (some .int)) ({ frames := 3, cells := 0, slots := 0, locals := 63 } : Room) (va_Pc [.ref (L 44), .int g] (pI D (cfC D L x) A)) (nQ D (cfC D L (aC x (a_draw (x.1 0) g))) A (some (.int (aR (a_draw (x.1 0) g))))) 0 0 A := by
  refine met_I (by decide) rfl (Nat.le_of_ble_eq_true rfl) ?_
  intro p e s m below meth c ls hx hb hr hml hown hts hlocks hl hI hK
  have F : CallFix p m c cX0_draw 2 s _ lw_all RX0 := ⟨hx, hb, hml, hown, hts⟩
  have hl : lv_has ls 2 [(0, .ref (L 44)), (1, .int g)] := hl
  have hS : va_S A s.heap s.heap [] := va_S.rf
  obtain ⟨n, hn, h8⟩ : ∃ n, x.1 0 1 0 = nI n ∧ n ≤ 8 := ⟨_, hO.n⟩
  have hN : wN (x.1 0) = n := by unfold wN; rw [hn, nI_clamp (by omega)]
  refine lv_aload_n hx hb dX0_draw_0 rfl (lv_at hl 0 rfl) ?_
  refine lv_iload_n hx hb dX0_draw_1 rfl (lv_at hl 1 rfl) ?_
  refine c_r (k_V (As := [.int g]) (rest := []) F (k_X0_isGlove x g) (cwV 1 hts (lw_V q543 q545 qs5 q91 q546) rfl rfl rfl (by decide +kernel) ⟨Nat.le_of_ble_eq_true rfl, Nat.le_of_ble_eq_true rfl⟩) hI hK (hw.recv hI hK (cf_main) rfl) rfl hl.1 rfl (Nat.le_of_ble_eq_true rfl) dX0_draw_2 ⟨Nat.le_of_ble_eq_true rfl, Nat.le_of_ble_eq_true rfl⟩) ?_
  refine lv_if_ne (tgt := 14) hx hb dX0_draw_5 (by decide) (fun c_5 => ?_) (fun c_5 => ?_)
  · skip
    obtain ⟨k, hk, eg⟩ := isGl_to hn h8 c_5
    have eg2 : g.toNatClampNeg = k := by rw [eg, nI_clamp (by omega)]
    subst eg
    refine lv_aload_n hx hb dX0_draw_14 rfl (lv_at hl 0 rfl) ?_
    refine lv_iload_n hx hb dX0_draw_15 rfl (lv_at hl 1 rfl) ?_
    refine c_r (k_V (As := [.int (nI k)]) (rest := []) F (k_X0_gloveOf x k (kN (x.1 0) k) (hO.k (k := k) (by omega)).2 (by omega) ((hO.k (k := k) (by omega)).1)) (cwV 1 hts (lw_V q482 q484 qs4 q91 q485) rfl rfl rfl (by decide +kernel) ⟨Nat.le_of_ble_eq_true rfl, Nat.le_of_ble_eq_true rfl⟩) hI hK (hw.recv hI hK (cf_main) rfl) rfl hl.1 rfl (Nat.le_of_ble_eq_true rfl) dX0_draw_16 ⟨Nat.le_of_ble_eq_true rfl, Nat.le_of_ble_eq_true rfl⟩) ?_
    refine c_r (run_stays (rest := []) F (hO.k (k := k) (by omega)).2 (by omega) hI hK hl.1 (Nat.le_of_ble_eq_true rfl) dX0_draw_19 ⟨Nat.le_of_ble_eq_true rfl, Nat.le_of_ble_eq_true rfl⟩ ⟨Nat.le_of_ble_eq_true rfl, Nat.le_of_ble_eq_true rfl⟩) ?_
    refine lv_if_ne (tgt := 33) hx hb dX0_draw_22 (by decide) (fun c_22 => ?_) (fun c_22 => ?_)
    · skip
      refine lv_aload_n hx hb dX0_draw_33 rfl (lv_at hl 0 rfl) ?_
      refine lv_iload_n hx hb dX0_draw_34 rfl (lv_at hl 1 rfl) ?_
      refine c_m (k_V (As := [.int (nI k)]) (rest := []) F (k_X0_drawnOn x k (by omega)) (cwV 1 hts (lw_V q677 q679 qs6 q91 q680) rfl rfl rfl (by decide +kernel) ⟨Nat.le_of_ble_eq_true rfl, Nat.le_of_ble_eq_true rfl⟩) hI hK (hw.recv hI hK (cf_main) rfl) rfl hl.1 rfl (Nat.le_of_ble_eq_true rfl) dX0_draw_35 ⟨Nat.le_of_ble_eq_true rfl, Nat.le_of_ble_eq_true rfl⟩) hS (fun H1 locs1 hI hS => ?_)
      obtain ⟨x1, ex1⟩ : ∃ z, z = xs x 0 (isdw (x.1 0) k) := ⟨_, rfl⟩
      rw [← ex1] at hI
      exact W.iret hx hb hr (fun t ht _ => ⟨rI (by first | (simp only [a_draw, aR, if_neg c_5, eg2, if_neg c_22]; done) | (simp [a_draw, aR, c_5, eg2, c_22]; done)), by rw [ht]; exact hw_eq hI (congrArg (cfC D L) (by first | (rw [ex1]; simp only [a_draw, aC, if_neg c_5, eg2, if_neg c_22]; done) | (simp only [a_draw, aC, xs_self, if_neg c_5, eg2, if_neg c_22]; done) | (rw [ex1]; simp [a_draw, aC, c_5, eg2, c_22]; done) | (simp [a_draw, aC, c_5, eg2, c_22, xs_self]; done))), hS.F ht⟩) hS.2.2 dX0_draw_38
    · skip
      refine lv_aload_n hx hb dX0_draw_25 rfl (lv_at hl 0 rfl) ?_
      refine lv_iconst (v := 4) hx hb dX0_draw_26 (by decide) ?_
      refine c_m (k_V (As := [.int 4]) (rest := []) F (k_X0_finding x 4 (by decide)) (cwV 1 hts (lw_V q457 q459 qs2 q91 q460) rfl rfl rfl (by decide +kernel) ⟨Nat.le_of_ble_eq_true rfl, Nat.le_of_ble_eq_true rfl⟩) hI hK (hw.recv hI hK (cf_main) rfl) rfl hl.1 rfl (Nat.le_of_ble_eq_true rfl) dX0_draw_27 ⟨Nat.le_of_ble_eq_true rfl, Nat.le_of_ble_eq_true rfl⟩) hS (fun H1 locs1 hI hS => ?_)
      obtain ⟨x2, ex2⟩ : ∃ z, z = (fnd x 4) := ⟨_, rfl⟩
      rw [← ex2] at hI
      refine lv_goto (tgt := 38) hx hb dX0_draw_30 (by decide) ?_
      exact W.iret hx hb hr (fun t ht _ => ⟨rI (by first | (simp only [a_draw, aR, if_neg c_5, eg2, if_pos c_22]; done) | (simp [a_draw, aR, c_5, eg2, c_22]; done)), by rw [ht]; exact hw_eq hI (congrArg (cfC D L) (by first | (rw [ex2]; simp only [a_draw, aC, if_neg c_5, eg2, if_pos c_22]; done) | (simp only [a_draw, aC, xs_self, if_neg c_5, eg2, if_pos c_22]; done) | (rw [ex2]; simp [a_draw, aC, c_5, eg2, c_22]; done) | (simp [a_draw, aC, c_5, eg2, c_22, xs_self]; done))), hS.F ht⟩) hS.2.2 dX0_draw_38
  · skip
    refine lv_aload_n hx hb dX0_draw_8 rfl (lv_at hl 0 rfl) ?_
    refine lv_iconst (v := 0) hx hb dX0_draw_9 (by decide) ?_
    refine c_m (k_V (As := [.int 0]) (rest := []) F (k_X0_finding x 0 (by decide)) (cwV 1 hts (lw_V q457 q459 qs2 q91 q460) rfl rfl rfl (by decide +kernel) ⟨Nat.le_of_ble_eq_true rfl, Nat.le_of_ble_eq_true rfl⟩) hI hK (hw.recv hI hK (cf_main) rfl) rfl hl.1 rfl (Nat.le_of_ble_eq_true rfl) dX0_draw_10 ⟨Nat.le_of_ble_eq_true rfl, Nat.le_of_ble_eq_true rfl⟩) hS (fun H1 locs1 hI hS => ?_)
    obtain ⟨x3, ex3⟩ : ∃ z, z = (fnd x 0) := ⟨_, rfl⟩
    rw [← ex3] at hI
    exact W.iret hx hb hr (fun t ht _ => ⟨rI (by first | (simp only [a_draw, aR, if_pos c_5]; done) | (simp [a_draw, aR, c_5]; done)), by rw [ht]; exact hw_eq hI (congrArg (cfC D L) (by first | (rw [ex3]; simp only [a_draw, aC, if_pos c_5]; done) | (simp only [a_draw, aC, xs_self, if_pos c_5]; done) | (rw [ex3]; simp [a_draw, aC, c_5]; done) | (simp [a_draw, aC, c_5, xs_self]; done))), hS.F ht⟩) hS.2.2 dX0_draw_13
theorem k_X0_who {l : Launch} {D : va_G} {L : Nat → Nat} {A : Nat → Prop} (x : cst) (hO : wOk (x.1 0)) (t h : Int32) : Met l yX0_who (ws_ yX0_who cX0_who 3 (some .int)) ({ frames := 2, cells := 0, slots := 0, locals := 45 } : Room) (va_Pc [.ref (L 44), .int t, .int h] (pI D (cfC D L x) A)) (nQ D (cfC D L (aC x (a_who (x.1 0) t h))) A (some (.int (aR (a_who (x.1 0) t h))))) 0 0 A := by
  refine met_I (by decide) rfl (Nat.le_of_ble_eq_true rfl) ?_
  intro p e s m below meth c ls hx hb hr hml hown hts hlocks hl hI hK
  have F : CallFix p m c cX0_who 3 s _ lw_all RX0 := ⟨hx, hb, hml, hown, hts⟩
  have hl : lv_has ls 3 [(0, .ref (L 44)), (1, .int t), (2, .int h)] := hl
  have hS : va_S A s.heap s.heap [] := va_S.rf
  refine lv_iload_n hx hb dX0_who_0 rfl (lv_at hl 1 rfl) ?_
  refine c_r (k_S (As := [.int t]) (rest := []) F (k_X0_isTopic t) (va_cwS 1 hts (lw_S q454 q455 q91 q456) rfl rfl rfl (by decide +kernel) ⟨Nat.le_of_ble_eq_true rfl, Nat.le_of_ble_eq_true rfl⟩) rfl hl.1 rfl (Nat.le_of_ble_eq_true rfl) dX0_who_1 ⟨Nat.le_of_ble_eq_true rfl, Nat.le_of_ble_eq_true rfl⟩) ?_
  refine lv_if_eq (tgt := 36) hx hb dX0_who_4 (by decide) (fun c_4 => ?_) (fun c_4 => ?_)
  · skip
    refine lv_aload_n hx hb dX0_who_36 rfl (lv_at hl 0 rfl) ?_
    refine lv_iconst (v := 0) hx hb dX0_who_37 (by decide) ?_
    refine c_m (k_V (As := [.int 0]) (rest := []) F (k_X0_finding x 0 (by decide)) (cwV 1 hts (lw_V q457 q459 qs2 q91 q460) rfl rfl rfl (by decide +kernel) ⟨Nat.le_of_ble_eq_true rfl, Nat.le_of_ble_eq_true rfl⟩) hI hK (hw.recv hI hK (cf_main) rfl) rfl hl.1 rfl (Nat.le_of_ble_eq_true rfl) dX0_who_38 ⟨Nat.le_of_ble_eq_true rfl, Nat.le_of_ble_eq_true rfl⟩) hS (fun H1 locs1 hI hS => ?_)
    obtain ⟨x1, ex1⟩ : ∃ z, z = (fnd x 0) := ⟨_, rfl⟩
    rw [← ex1] at hI
    exact W.iret hx hb hr (fun t ht _ => ⟨rI (by first | (simp only [a_who, aR, if_pos c_4]; done) | (simp [a_who, aR, c_4]; done)), by rw [ht]; exact hw_eq hI (congrArg (cfC D L) (by first | (rw [ex1]; simp only [a_who, aC, if_pos c_4]; done) | (simp only [a_who, aC, xs_self, if_pos c_4]; done) | (rw [ex1]; simp [a_who, aC, c_4]; done) | (simp [a_who, aC, c_4, xs_self]; done))), hS.F ht⟩) hS.2.2 dX0_who_41
  · skip
    refine lv_iload_n hx hb dX0_who_7 rfl (lv_at hl 2 rfl) ?_
    refine lv_iconst (v := 0) hx hb dX0_who_8 (by decide) ?_
    refine lv_iconst (v := 1) hx hb dX0_who_9 (by decide) ?_
    refine c_r (k_S (As := [.int h, .int 0, .int 1]) (rest := []) F (k_X0_in h 0 1) (va_cwS 3 hts (lw_S q439 q440 q91 q441) rfl rfl rfl (by decide +kernel) ⟨Nat.le_of_ble_eq_true rfl, Nat.le_of_ble_eq_true rfl⟩) rfl hl.1 rfl (Nat.le_of_ble_eq_true rfl) dX0_who_10 ⟨Nat.le_of_ble_eq_true rfl, Nat.le_of_ble_eq_true rfl⟩) ?_
    refine lv_if_eq (tgt := 36) hx hb dX0_who_13 (by decide) (fun c_13 => ?_) (fun c_13 => ?_)
    · skip
      refine lv_aload_n hx hb dX0_who_36 rfl (lv_at hl 0 rfl) ?_
      refine lv_iconst (v := 0) hx hb dX0_who_37 (by decide) ?_
      refine c_m (k_V (As := [.int 0]) (rest := []) F (k_X0_finding x 0 (by decide)) (cwV 1 hts (lw_V q457 q459 qs2 q91 q460) rfl rfl rfl (by decide +kernel) ⟨Nat.le_of_ble_eq_true rfl, Nat.le_of_ble_eq_true rfl⟩) hI hK (hw.recv hI hK (cf_main) rfl) rfl hl.1 rfl (Nat.le_of_ble_eq_true rfl) dX0_who_38 ⟨Nat.le_of_ble_eq_true rfl, Nat.le_of_ble_eq_true rfl⟩) hS (fun H1 locs1 hI hS => ?_)
      obtain ⟨x2, ex2⟩ : ∃ z, z = (fnd x 0) := ⟨_, rfl⟩
      rw [← ex2] at hI
      exact W.iret hx hb hr (fun t ht _ => ⟨rI (by first | (simp only [a_who, aR, if_neg c_4, if_pos c_13]; done) | (simp [a_who, aR, c_4, c_13]; done)), by rw [ht]; exact hw_eq hI (congrArg (cfC D L) (by first | (rw [ex2]; simp only [a_who, aC, if_neg c_4, if_pos c_13]; done) | (simp only [a_who, aC, xs_self, if_neg c_4, if_pos c_13]; done) | (rw [ex2]; simp [a_who, aC, c_4, c_13]; done) | (simp [a_who, aC, c_4, c_13, xs_self]; done))), hS.F ht⟩) hS.2.2 dX0_who_41
    · skip
      refine lv_aload_n hx hb dX0_who_16 rfl (lv_at hl 0 rfl) ?_
      refine r_get (C := RX0) (T := TX0) (N := 11) hx hb hts in_X0 hown hK hI (cf_main) rfl 3 (by decide) (hts _ q401) (fun _ h => h) rfl dX0_who_17 ?_
      refine lv_iload_n hx hb dX0_who_20 rfl (lv_at hl 1 rfl) ?_
      refine lv_iload_n hx hb dX0_who_21 rfl (lv_at hl 2 rfl) ?_
      refine lv_if_ne (tgt := 29) hx hb dX0_who_22 (by decide) (fun c_22 => ?_) (fun c_22 => ?_)
      · skip
        refine lv_iconst (v := 5) hx hb dX0_who_29 (by decide) ?_
        refine c_r (k_V (As := [.int t, .int 5]) (rest := []) F (k_X4_whoKnows x 0 (by decide) (hO) t 5 (by decide)) (cwV 2 hts (lw_V q692 q693 q694 q98 q695) rfl rfl rfl (by decide +kernel) ⟨Nat.le_of_ble_eq_true rfl, Nat.le_of_ble_eq_true rfl⟩) hI hK (hw.recv hI hK (cf_W (w := 0) (by decide)) rfl) rfl hl.1 rfl (Nat.le_of_ble_eq_true rfl) dX0_who_30 ⟨Nat.le_of_ble_eq_true rfl, Nat.le_of_ble_eq_true rfl⟩) ?_
        refine lv_goto (tgt := 41) hx hb dX0_who_33 (by decide) ?_
        exact W.iret hx hb hr (fun t ht _ => ⟨rI (by first | (simp only [a_who, aR, if_neg c_4, if_neg c_13, if_neg c_22]; done) | (simp [a_who, aR, c_4, c_13, c_22]; done)), by rw [ht]; exact hw_eq hI (congrArg (cfC D L) (by first | (rw []; simp only [a_who, aC, if_neg c_4, if_neg c_13, if_neg c_22]; done) | (simp only [a_who, aC, xs_self, if_neg c_4, if_neg c_13, if_neg c_22]; done) | (rw []; simp [a_who, aC, c_4, c_13, c_22]; done) | (simp [a_who, aC, c_4, c_13, c_22, xs_self]; done))), hS.F ht⟩) hS.2.2 dX0_who_41
      · skip
        refine lv_iconst (v := 3) hx hb dX0_who_25 (by decide) ?_
        refine lv_goto (tgt := 30) hx hb dX0_who_26 (by decide) ?_
        refine c_r (k_V (As := [.int t, .int 3]) (rest := []) F (k_X4_whoKnows x 0 (by decide) (hO) t 3 (by decide)) (cwV 2 hts (lw_V q692 q693 q694 q98 q695) rfl rfl rfl (by decide +kernel) ⟨Nat.le_of_ble_eq_true rfl, Nat.le_of_ble_eq_true rfl⟩) hI hK (hw.recv hI hK (cf_W (w := 0) (by decide)) rfl) rfl hl.1 rfl (Nat.le_of_ble_eq_true rfl) dX0_who_30 ⟨Nat.le_of_ble_eq_true rfl, Nat.le_of_ble_eq_true rfl⟩) ?_
        refine lv_goto (tgt := 41) hx hb dX0_who_33 (by decide) ?_
        exact W.iret hx hb hr (fun t ht _ => ⟨rI (by first | (simp only [a_who, aR, if_neg c_4, if_neg c_13, if_pos c_22]; done) | (simp [a_who, aR, c_4, c_13, c_22]; done)), by rw [ht]; exact hw_eq hI (congrArg (cfC D L) (by first | (rw []; simp only [a_who, aC, if_neg c_4, if_neg c_13, if_pos c_22]; done) | (simp only [a_who, aC, xs_self, if_neg c_4, if_neg c_13, if_pos c_22]; done) | (rw []; simp [a_who, aC, c_4, c_13, c_22]; done) | (simp [a_who, aC, c_4, c_13, c_22, xs_self]; done))), hS.F ht⟩) hS.2.2 dX0_who_41
theorem k_X0_goesOn {l : Launch} {D : va_G} {L : Nat → Nat} {A : Nat → Prop} (x : cst) (hO : wOk (x.1 0)) (hd : isN (x.1 0 1 2) 10000) (n : Nat) (hn : n ≤ 1000) : Met l yX0_goesOn (ws_ yX0_goesOn cX0_goesOn 2 (some .int)) ({ frames := 7, cells := 0, slots := 0, locals := 152 } : Room) (va_Pc [.ref (L 44), .int (nI n)] (pI D (cfC D L x) A)) (nQ D (cfC D L (xs x 0 (psn (x.1 0) n))) A (some (.int (knI (psn (x.1 0) n) 3 (allI (psn (x.1 0) n)))))) 0 0 A := by
  refine met_I (by decide) rfl (Nat.le_of_ble_eq_true rfl) ?_
  intro p e s m below meth c ls hx hb hr hml hown hts hlocks hl hI hK
  have F : CallFix p m c cX0_goesOn 2 s _ lw_all RX0 := ⟨hx, hb, hml, hown, hts⟩
  have hl : lv_has ls 2 [(0, .ref (L 44)), (1, .int (nI n))] := hl
  have hS : va_S A s.heap s.heap [] := va_S.rf
  refine lv_aload_n hx hb dX0_goesOn_0 rfl (lv_at hl 0 rfl) ?_
  refine lv_iload_n hx hb dX0_goesOn_1 rfl (lv_at hl 1 rfl) ?_
  refine c_m (k_V (As := [.int (nI n)]) (rest := []) F (k_X0_passes x (hO) (hd) n (by omega)) (cwV 1 hts (lw_V q709 q711 qs8 q91 q712) rfl rfl rfl (by decide +kernel) ⟨Nat.le_of_ble_eq_true rfl, Nat.le_of_ble_eq_true rfl⟩) hI hK (hw.recv hI hK (cf_main) rfl) rfl hl.1 rfl (Nat.le_of_ble_eq_true rfl) dX0_goesOn_2 ⟨Nat.le_of_ble_eq_true rfl, Nat.le_of_ble_eq_true rfl⟩) hS (fun H1 locs1 hI hS => ?_)
  obtain ⟨x1, ex1⟩ : ∃ z, z = xs x 0 (psn (x.1 0) n) := ⟨_, rfl⟩
  rw [← ex1] at hI
  refine lv_aload_n hx hb dX0_goesOn_5 rfl (lv_at hl 0 rfl) ?_
  refine r_get (C := RX0) (T := TX0) (N := 11) hx hb hts in_X0 hown hK hI (cf_main) rfl 3 (by decide) (hts _ q401) (fun _ h => h) rfl dX0_goesOn_6 ?_
  refine lv_iconst (v := 3) hx hb dX0_goesOn_9 (by decide) ?_
  refine lv_aload_n hx hb dX0_goesOn_10 rfl (lv_at hl 0 rfl) ?_
  refine r_get (C := RX0) (T := TX0) (N := 11) hx hb hts in_X0 hown hK hI (cf_main) rfl 3 (by decide) (hts _ q401) (fun _ h => h) rfl dX0_goesOn_11 ?_
  refine c_r (k_V (As := []) (rest := [.int 3, .ref (L (11 * 0))]) F (k_X4_all x1 0 (by decide) ((by rw [ex1, xs_at]; exact wOk_psn hO hd n hn))) (cwV 0 hts (lw_V q747 q748 q749 q98 q750) rfl rfl rfl (by decide +kernel) ⟨Nat.le_of_ble_eq_true rfl, Nat.le_of_ble_eq_true rfl⟩) hI hK (hw.recv hI hK (cf_W (w := 0) (by decide)) rfl) rfl hl.1 rfl (Nat.le_of_ble_eq_true rfl) dX0_goesOn_14 ⟨Nat.le_of_ble_eq_true rfl, Nat.le_of_ble_eq_true rfl⟩) ?_
  refine c_r (k_V (As := [.int 3, .int (allI (x1.1 0))]) (rest := []) F (k_X4_known x1 0 (by decide) ((by rw [ex1, xs_at]; exact wOk_psn hO hd n hn)) 3 (allI (x1.1 0)) (by decide)) (cwV 2 hts (lw_V q518 q519 q520 q98 q521) rfl rfl rfl (by decide +kernel) ⟨Nat.le_of_ble_eq_true rfl, Nat.le_of_ble_eq_true rfl⟩) hI hK (hw.recv hI hK (cf_W (w := 0) (by decide)) rfl) rfl hl.1 rfl (Nat.le_of_ble_eq_true rfl) dX0_goesOn_17 ⟨Nat.le_of_ble_eq_true rfl, Nat.le_of_ble_eq_true rfl⟩) ?_
  exact W.iret hx hb hr (fun t ht _ => ⟨rI (by rw [ex1, xs_at]), by rw [ht]; exact hw_eq hI (congrArg (cfC D L) (ex1)), hS.F ht⟩) hS.2.2 dX0_goesOn_20
theorem k_X0_go {l : Launch} {D : va_G} {L : Nat → Nat} {A : Nat → Prop} (x : cst) (hO : wOk (x.1 0)) (hd : isN (x.1 0 1 2) 10000) (n : Int32) : Met l yX0_go (ws_ yX0_go cX0_go 2 (some .int)) ({ frames := 8, cells := 0, slots := 0, locals := 173 } : Room) (va_Pc [.ref (L 44), .int n] (pI D (cfC D L x) A)) (nQ D (cfC D L (aC x (a_go (x.1 0) n))) A (some (.int (aR (a_go (x.1 0) n))))) 0 0 A := by
  refine met_I (by decide) rfl (Nat.le_of_ble_eq_true rfl) ?_
  intro p e s m below meth c ls hx hb hr hml hown hts hlocks hl hI hK
  have F : CallFix p m c cX0_go 2 s _ lw_all RX0 := ⟨hx, hb, hml, hown, hts⟩
  have hl : lv_has ls 2 [(0, .ref (L 44)), (1, .int n)] := hl
  have hS : va_S A s.heap s.heap [] := va_S.rf
  refine lv_iload_n hx hb dX0_go_0 rfl (lv_at hl 1 rfl) ?_
  refine lv_iconst (v := 1) hx hb dX0_go_1 (by decide) ?_
  refine lv_bipush (v := 60) hx hb dX0_go_2 (by decide) ?_
  refine c_r (k_S (As := [.int n, .int 1, .int 60]) (rest := []) F (k_X0_in n 1 60) (va_cwS 3 hts (lw_S q439 q440 q91 q441) rfl rfl rfl (by decide +kernel) ⟨Nat.le_of_ble_eq_true rfl, Nat.le_of_ble_eq_true rfl⟩) rfl hl.1 rfl (Nat.le_of_ble_eq_true rfl) dX0_go_4 ⟨Nat.le_of_ble_eq_true rfl, Nat.le_of_ble_eq_true rfl⟩) ?_
  refine lv_if_ne (tgt := 16) hx hb dX0_go_7 (by decide) (fun c_7 => ?_) (fun c_7 => ?_)
  · skip
    obtain ⟨k, hk1, hk6, en⟩ := inI_to1 (a := 1) (b := 60) rfl rfl (by decide) (by decide) c_7
    have en2 : n.toNatClampNeg = k := by rw [en, nI_clamp (by omega)]
    subst en
    refine lv_aload_n hx hb dX0_go_16 rfl (lv_at hl 0 rfl) ?_
    refine r_get (C := RX0) (T := TX0) (N := 11) hx hb hts in_X0 hown hK hI (cf_main) rfl 3 (by decide) (hts _ q401) (fun _ h => h) rfl dX0_go_17 ?_
    refine lv_iload_n hx hb dX0_go_20 rfl (lv_at hl 1 rfl) ?_
    refine c_r (k_V (As := [.int (nI k)]) (rest := []) F (k_X4_isLate x 0 (by decide) (hO) (nI k)) (cwV 1 hts (lw_V q700 q701 q702 q98 q703) rfl rfl rfl (by decide +kernel) ⟨Nat.le_of_ble_eq_true rfl, Nat.le_of_ble_eq_true rfl⟩) hI hK (hw.recv hI hK (cf_W (w := 0) (by decide)) rfl) rfl hl.1 rfl (Nat.le_of_ble_eq_true rfl) dX0_go_21 ⟨Nat.le_of_ble_eq_true rfl, Nat.le_of_ble_eq_true rfl⟩) ?_
    refine lv_if_eq (tgt := 35) hx hb dX0_go_24 (by decide) (fun c_24 => ?_) (fun c_24 => ?_)
    · skip
      refine lv_aload_n hx hb dX0_go_35 rfl (lv_at hl 0 rfl) ?_
      refine lv_iload_n hx hb dX0_go_36 rfl (lv_at hl 1 rfl) ?_
      refine c_m (k_V (As := [.int (nI k)]) (rest := []) F (k_X0_goesOn x (hO) (hd) k (by omega)) (cwV 1 hts (lw_V q705 q707 qs7 q91 q708) rfl rfl rfl (by decide +kernel) ⟨Nat.le_of_ble_eq_true rfl, Nat.le_of_ble_eq_true rfl⟩) hI hK (hw.recv hI hK (cf_main) rfl) rfl hl.1 rfl (Nat.le_of_ble_eq_true rfl) dX0_go_37 ⟨Nat.le_of_ble_eq_true rfl, Nat.le_of_ble_eq_true rfl⟩) hS (fun H1 locs1 hI hS => ?_)
      obtain ⟨x1, ex1⟩ : ∃ z, z = xs x 0 (psn (x.1 0) k) := ⟨_, rfl⟩
      rw [← ex1] at hI
      exact W.iret hx hb hr (fun t ht _ => ⟨rI (by first | (simp only [a_go, aR, if_neg c_7, en2, if_pos c_24]; done) | (simp [a_go, aR, c_7, en2, c_24]; done)), by rw [ht]; exact hw_eq hI (congrArg (cfC D L) (by first | (rw [ex1]; simp only [a_go, aC, if_neg c_7, en2, if_pos c_24]; done) | (simp only [a_go, aC, xs_self, if_neg c_7, en2, if_pos c_24]; done) | (rw [ex1]; simp [a_go, aC, c_7, en2, c_24]; done) | (simp [a_go, aC, c_7, en2, c_24, xs_self]; done))), hS.F ht⟩) hS.2.2 dX0_go_40
    · skip
      refine lv_aload_n hx hb dX0_go_27 rfl (lv_at hl 0 rfl) ?_
      refine lv_iconst (v := 4) hx hb dX0_go_28 (by decide) ?_
      refine c_m (k_V (As := [.int 4]) (rest := []) F (k_X0_finding x 4 (by decide)) (cwV 1 hts (lw_V q457 q459 qs2 q91 q460) rfl rfl rfl (by decide +kernel) ⟨Nat.le_of_ble_eq_true rfl, Nat.le_of_ble_eq_true rfl⟩) hI hK (hw.recv hI hK (cf_main) rfl) rfl hl.1 rfl (Nat.le_of_ble_eq_true rfl) dX0_go_29 ⟨Nat.le_of_ble_eq_true rfl, Nat.le_of_ble_eq_true rfl⟩) hS (fun H1 locs1 hI hS => ?_)
      obtain ⟨x2, ex2⟩ : ∃ z, z = (fnd x 4) := ⟨_, rfl⟩
      rw [← ex2] at hI
      refine lv_goto (tgt := 40) hx hb dX0_go_32 (by decide) ?_
      exact W.iret hx hb hr (fun t ht _ => ⟨rI (by first | (simp only [a_go, aR, if_neg c_7, en2, if_neg c_24]; done) | (simp [a_go, aR, c_7, en2, c_24]; done)), by rw [ht]; exact hw_eq hI (congrArg (cfC D L) (by first | (rw [ex2]; simp only [a_go, aC, if_neg c_7, en2, if_neg c_24]; done) | (simp only [a_go, aC, xs_self, if_neg c_7, en2, if_neg c_24]; done) | (rw [ex2]; simp [a_go, aC, c_7, en2, c_24]; done) | (simp [a_go, aC, c_7, en2, c_24, xs_self]; done))), hS.F ht⟩) hS.2.2 dX0_go_40
  · skip
    refine lv_aload_n hx hb dX0_go_10 rfl (lv_at hl 0 rfl) ?_
    refine lv_iconst (v := 0) hx hb dX0_go_11 (by decide) ?_
    refine c_m (k_V (As := [.int 0]) (rest := []) F (k_X0_finding x 0 (by decide)) (cwV 1 hts (lw_V q457 q459 qs2 q91 q460) rfl rfl rfl (by decide +kernel) ⟨Nat.le_of_ble_eq_true rfl, Nat.le_of_ble_eq_true rfl⟩) hI hK (hw.recv hI hK (cf_main) rfl) rfl hl.1 rfl (Nat.le_of_ble_eq_true rfl) dX0_go_12 ⟨Nat.le_of_ble_eq_true rfl, Nat.le_of_ble_eq_true rfl⟩) hS (fun H1 locs1 hI hS => ?_)
    obtain ⟨x3, ex3⟩ : ∃ z, z = (fnd x 0) := ⟨_, rfl⟩
    rw [← ex3] at hI
    exact W.iret hx hb hr (fun t ht _ => ⟨rI (by first | (simp only [a_go, aR, if_pos c_7]; done) | (simp [a_go, aR, c_7]; done)), by rw [ht]; exact hw_eq hI (congrArg (cfC D L) (by first | (rw [ex3]; simp only [a_go, aC, if_pos c_7]; done) | (simp only [a_go, aC, xs_self, if_pos c_7]; done) | (rw [ex3]; simp [a_go, aC, c_7]; done) | (simp [a_go, aC, c_7, xs_self]; done))), hS.F ht⟩) hS.2.2 dX0_go_15
theorem k_X0_now {l : Launch} {D : va_G} {L : Nat → Nat} {A : Nat → Prop} (x : cst) (hO : wOk (x.1 0)) (w : Int32) : Met l yX0_now (ws_ yX0_now cX0_now 2 (some .int)) ({ frames := 5, cells := 0, slots := 0, locals := 107 } : Room) (va_Pc [.ref (L 44), .int w] (pI D (cfC D L x) A)) (nQ D (cfC D L (aC x (a_now (x.1 0) w))) A (some (.int (aR (a_now (x.1 0) w))))) 0 0 A := by
  refine met_I (by decide) rfl (Nat.le_of_ble_eq_true rfl) ?_
  intro p e s m below meth c ls hx hb hr hml hown hts hlocks hl hI hK
  have F : CallFix p m c cX0_now 2 s _ lw_all RX0 := ⟨hx, hb, hml, hown, hts⟩
  have hl : lv_has ls 2 [(0, .ref (L 44)), (1, .int w)] := hl
  have hS : va_S A s.heap s.heap [] := va_S.rf
  refine lv_iload_n hx hb dX0_now_0 rfl (lv_at hl 1 rfl) ?_
  by_cases c_1_0 : w = 0
  · skip
    refine lv_tableIn (off := 43) (tgt := 44) hx hb dX0_now_1 (by rw [c_1_0]; decide) (by rw [c_1_0]; decide) (by rw [c_1_0]; rfl) (by decide) ?_
    refine lv_aload_n hx hb dX0_now_44 rfl (lv_at hl 0 rfl) ?_
    refine r_get (C := RX0) (T := TX0) (N := 11) hx hb hts in_X0 hown hK hI (cf_main) rfl 3 (by decide) (hts _ q401) (fun _ h => h) rfl dX0_now_45 ?_
    refine r_getN (C := RX4) (T := TX4) (N := 7) hx hb hts in_X4 hown hK hI (cf_W (w := 0) (by decide)) rfl 4 (by decide) (nf_9 hK) (fun _ h => h) rfl dX0_now_48 ?_
    exact W.iret hx hb hr (fun t ht _ => ⟨rI (by first | (simp only [a_now, aR, if_pos c_1_0]; done) | (simp [a_now, aR, c_1_0]; done)), by rw [ht]; exact hw_eq hI (congrArg (cfC D L) (by first | (rw []; simp only [a_now, aC, if_pos c_1_0]; done) | (simp only [a_now, aC, xs_self, if_pos c_1_0]; done) | (rw []; simp [a_now, aC, c_1_0]; done) | (simp [a_now, aC, c_1_0, xs_self]; done))), hS.F ht⟩) hS.2.2 dX0_now_51
  by_cases c_1_1 : w = 1
  · skip
    refine lv_tableIn (off := 51) (tgt := 52) hx hb dX0_now_1 (by rw [c_1_1]; decide) (by rw [c_1_1]; decide) (by rw [c_1_1]; rfl) (by decide) ?_
    refine lv_aload_n hx hb dX0_now_52 rfl (lv_at hl 0 rfl) ?_
    refine r_get (C := RX0) (T := TX0) (N := 11) hx hb hts in_X0 hown hK hI (cf_main) rfl 3 (by decide) (hts _ q401) (fun _ h => h) rfl dX0_now_53 ?_
    refine lv_iconst (v := 3) hx hb dX0_now_56 (by decide) ?_
    refine lv_aload_n hx hb dX0_now_57 rfl (lv_at hl 0 rfl) ?_
    refine r_get (C := RX0) (T := TX0) (N := 11) hx hb hts in_X0 hown hK hI (cf_main) rfl 3 (by decide) (hts _ q401) (fun _ h => h) rfl dX0_now_58 ?_
    refine c_r (k_V (As := []) (rest := [.int 3, .ref (L (11 * 0))]) F (k_X4_all x 0 (by decide) (hO)) (cwV 0 hts (lw_V q747 q748 q749 q98 q750) rfl rfl rfl (by decide +kernel) ⟨Nat.le_of_ble_eq_true rfl, Nat.le_of_ble_eq_true rfl⟩) hI hK (hw.recv hI hK (cf_W (w := 0) (by decide)) rfl) rfl hl.1 rfl (Nat.le_of_ble_eq_true rfl) dX0_now_61 ⟨Nat.le_of_ble_eq_true rfl, Nat.le_of_ble_eq_true rfl⟩) ?_
    refine c_r (k_V (As := [.int 3, .int (allI (x.1 0))]) (rest := []) F (k_X4_known x 0 (by decide) (hO) 3 (allI (x.1 0)) (by decide)) (cwV 2 hts (lw_V q518 q519 q520 q98 q521) rfl rfl rfl (by decide +kernel) ⟨Nat.le_of_ble_eq_true rfl, Nat.le_of_ble_eq_true rfl⟩) hI hK (hw.recv hI hK (cf_W (w := 0) (by decide)) rfl) rfl hl.1 rfl (Nat.le_of_ble_eq_true rfl) dX0_now_64 ⟨Nat.le_of_ble_eq_true rfl, Nat.le_of_ble_eq_true rfl⟩) ?_
    exact W.iret hx hb hr (fun t ht _ => ⟨rI (by first | (simp only [a_now, aR, if_neg c_1_0, if_pos c_1_1]; done) | (simp [a_now, aR, c_1_0, c_1_1]; done)), by rw [ht]; exact hw_eq hI (congrArg (cfC D L) (by first | (rw []; simp only [a_now, aC, if_neg c_1_0, if_pos c_1_1]; done) | (simp only [a_now, aC, xs_self, if_neg c_1_0, if_pos c_1_1]; done) | (rw []; simp [a_now, aC, c_1_0, c_1_1]; done) | (simp [a_now, aC, c_1_0, c_1_1, xs_self]; done))), hS.F ht⟩) hS.2.2 dX0_now_67
  by_cases c_1_2 : w = 2
  · skip
    refine lv_tableIn (off := 67) (tgt := 68) hx hb dX0_now_1 (by rw [c_1_2]; decide) (by rw [c_1_2]; decide) (by rw [c_1_2]; rfl) (by decide) ?_
    refine lv_aload_n hx hb dX0_now_68 rfl (lv_at hl 0 rfl) ?_
    refine r_get (C := RX0) (T := TX0) (N := 11) hx hb hts in_X0 hown hK hI (cf_main) rfl 3 (by decide) (hts _ q401) (fun _ h => h) rfl dX0_now_69 ?_
    refine lv_iconst (v := 5) hx hb dX0_now_72 (by decide) ?_
    refine lv_aload_n hx hb dX0_now_73 rfl (lv_at hl 0 rfl) ?_
    refine r_get (C := RX0) (T := TX0) (N := 11) hx hb hts in_X0 hown hK hI (cf_main) rfl 3 (by decide) (hts _ q401) (fun _ h => h) rfl dX0_now_74 ?_
    refine c_r (k_V (As := []) (rest := [.int 5, .ref (L (11 * 0))]) F (k_X4_all x 0 (by decide) (hO)) (cwV 0 hts (lw_V q747 q748 q749 q98 q750) rfl rfl rfl (by decide +kernel) ⟨Nat.le_of_ble_eq_true rfl, Nat.le_of_ble_eq_true rfl⟩) hI hK (hw.recv hI hK (cf_W (w := 0) (by decide)) rfl) rfl hl.1 rfl (Nat.le_of_ble_eq_true rfl) dX0_now_77 ⟨Nat.le_of_ble_eq_true rfl, Nat.le_of_ble_eq_true rfl⟩) ?_
    refine c_r (k_V (As := [.int 5, .int (allI (x.1 0))]) (rest := []) F (k_X4_known x 0 (by decide) (hO) 5 (allI (x.1 0)) (by decide)) (cwV 2 hts (lw_V q518 q519 q520 q98 q521) rfl rfl rfl (by decide +kernel) ⟨Nat.le_of_ble_eq_true rfl, Nat.le_of_ble_eq_true rfl⟩) hI hK (hw.recv hI hK (cf_W (w := 0) (by decide)) rfl) rfl hl.1 rfl (Nat.le_of_ble_eq_true rfl) dX0_now_80 ⟨Nat.le_of_ble_eq_true rfl, Nat.le_of_ble_eq_true rfl⟩) ?_
    exact W.iret hx hb hr (fun t ht _ => ⟨rI (by first | (simp only [a_now, aR, if_neg c_1_0, if_neg c_1_1, if_pos c_1_2]; done) | (simp [a_now, aR, c_1_0, c_1_1, c_1_2]; done)), by rw [ht]; exact hw_eq hI (congrArg (cfC D L) (by first | (rw []; simp only [a_now, aC, if_neg c_1_0, if_neg c_1_1, if_pos c_1_2]; done) | (simp only [a_now, aC, xs_self, if_neg c_1_0, if_neg c_1_1, if_pos c_1_2]; done) | (rw []; simp [a_now, aC, c_1_0, c_1_1, c_1_2]; done) | (simp [a_now, aC, c_1_0, c_1_1, c_1_2, xs_self]; done))), hS.F ht⟩) hS.2.2 dX0_now_83
  by_cases c_1_3 : w = 3
  · skip
    refine lv_tableIn (off := 83) (tgt := 84) hx hb dX0_now_1 (by rw [c_1_3]; decide) (by rw [c_1_3]; decide) (by rw [c_1_3]; rfl) (by decide) ?_
    refine lv_ldc (v := 65535) hx hb hown (hts _ q672) dX0_now_84 ?_
    refine lv_aload_n hx hb dX0_now_86 rfl (lv_at hl 0 rfl) ?_
    refine r_get (C := RX0) (T := TX0) (N := 11) hx hb hts in_X0 hown hK hI (cf_main) rfl 3 (by decide) (hts _ q401) (fun _ h => h) rfl dX0_now_87 ?_
    refine lv_aload_n hx hb dX0_now_90 rfl (lv_at hl 0 rfl) ?_
    refine r_get (C := RX0) (T := TX0) (N := 11) hx hb hts in_X0 hown hK hI (cf_main) rfl 3 (by decide) (hts _ q401) (fun _ h => h) rfl dX0_now_91 ?_
    refine c_r (k_V (As := []) (rest := [.ref (L (11 * 0)), .int 65535]) F (k_X4_all x 0 (by decide) (hO)) (cwV 0 hts (lw_V q747 q748 q749 q98 q750) rfl rfl rfl (by decide +kernel) ⟨Nat.le_of_ble_eq_true rfl, Nat.le_of_ble_eq_true rfl⟩) hI hK (hw.recv hI hK (cf_W (w := 0) (by decide)) rfl) rfl hl.1 rfl (Nat.le_of_ble_eq_true rfl) dX0_now_94 ⟨Nat.le_of_ble_eq_true rfl, Nat.le_of_ble_eq_true rfl⟩) ?_
    refine c_r (k_V (As := [.int (allI (x.1 0))]) (rest := [.int 65535]) F (k_X4_knownBoth x 0 (by decide) (hO) (allI (x.1 0))) (cwV 1 hts (lw_V q755 q756 q757 q98 q758) rfl rfl rfl (by decide +kernel) ⟨Nat.le_of_ble_eq_true rfl, Nat.le_of_ble_eq_true rfl⟩) hI hK (hw.recv hI hK (cf_W (w := 0) (by decide)) rfl) rfl hl.1 rfl (Nat.le_of_ble_eq_true rfl) dX0_now_97 ⟨Nat.le_of_ble_eq_true rfl, Nat.le_of_ble_eq_true rfl⟩) ?_
    refine lv_iconst (v := (-1)) hx hb dX0_now_100 (by decide) ?_
    refine lv_ixor hx hb dX0_now_101 ?_
    refine lv_iand hx hb dX0_now_102 ?_
    exact W.iret hx hb hr (fun t ht _ => ⟨rI (by first | (simp only [a_now, aR, if_neg c_1_0, if_neg c_1_1, if_neg c_1_2, if_pos c_1_3]; done) | (simp [a_now, aR, c_1_0, c_1_1, c_1_2, c_1_3]; done)), by rw [ht]; exact hw_eq hI (congrArg (cfC D L) (by first | (rw []; simp only [a_now, aC, if_neg c_1_0, if_neg c_1_1, if_neg c_1_2, if_pos c_1_3]; done) | (simp only [a_now, aC, xs_self, if_neg c_1_0, if_neg c_1_1, if_neg c_1_2, if_pos c_1_3]; done) | (rw []; simp [a_now, aC, c_1_0, c_1_1, c_1_2, c_1_3]; done) | (simp [a_now, aC, c_1_0, c_1_1, c_1_2, c_1_3, xs_self]; done))), hS.F ht⟩) hS.2.2 dX0_now_103
  by_cases c_1_4 : w = 4
  · skip
    refine lv_tableIn (off := 103) (tgt := 104) hx hb dX0_now_1 (by rw [c_1_4]; decide) (by rw [c_1_4]; decide) (by rw [c_1_4]; rfl) (by decide) ?_
    refine lv_aload_n hx hb dX0_now_104 rfl (lv_at hl 0 rfl) ?_
    refine r_get (C := RX0) (T := TX0) (N := 11) hx hb hts in_X0 hown hK hI (cf_main) rfl 3 (by decide) (hts _ q401) (fun _ h => h) rfl dX0_now_105 ?_
    refine c_r (k_V (As := []) (rest := []) F (k_X4_drawnInAll x 0 (by decide) (hO)) (cwV 0 hts (lw_V q760 q761 q762 q98 q763) rfl rfl rfl (by decide +kernel) ⟨Nat.le_of_ble_eq_true rfl, Nat.le_of_ble_eq_true rfl⟩) hI hK (hw.recv hI hK (cf_W (w := 0) (by decide)) rfl) rfl hl.1 rfl (Nat.le_of_ble_eq_true rfl) dX0_now_108 ⟨Nat.le_of_ble_eq_true rfl, Nat.le_of_ble_eq_true rfl⟩) ?_
    exact W.iret hx hb hr (fun t ht _ => ⟨rI (by first | (simp only [a_now, aR, if_neg c_1_0, if_neg c_1_1, if_neg c_1_2, if_neg c_1_3, if_pos c_1_4]; done) | (simp [a_now, aR, c_1_0, c_1_1, c_1_2, c_1_3, c_1_4]; done)), by rw [ht]; exact hw_eq hI (congrArg (cfC D L) (by first | (rw []; simp only [a_now, aC, if_neg c_1_0, if_neg c_1_1, if_neg c_1_2, if_neg c_1_3, if_pos c_1_4]; done) | (simp only [a_now, aC, xs_self, if_neg c_1_0, if_neg c_1_1, if_neg c_1_2, if_neg c_1_3, if_pos c_1_4]; done) | (rw []; simp [a_now, aC, c_1_0, c_1_1, c_1_2, c_1_3, c_1_4]; done) | (simp [a_now, aC, c_1_0, c_1_1, c_1_2, c_1_3, c_1_4, xs_self]; done))), hS.F ht⟩) hS.2.2 dX0_now_111
  by_cases c_1_5 : w = 5
  · skip
    refine lv_tableIn (off := 111) (tgt := 112) hx hb dX0_now_1 (by rw [c_1_5]; decide) (by rw [c_1_5]; decide) (by rw [c_1_5]; rfl) (by decide) ?_
    refine lv_aload_n hx hb dX0_now_112 rfl (lv_at hl 0 rfl) ?_
    refine r_get (C := RX0) (T := TX0) (N := 11) hx hb hts in_X0 hown hK hI (cf_main) rfl 3 (by decide) (hts _ q401) (fun _ h => h) rfl dX0_now_113 ?_
    refine c_r (k_V (As := []) (rest := []) F (k_X4_wisest x 0 (by decide) (hO)) (cwV 0 hts (lw_V q764 q765 q766 q98 q767) rfl rfl rfl (by decide +kernel) ⟨Nat.le_of_ble_eq_true rfl, Nat.le_of_ble_eq_true rfl⟩) hI hK (hw.recv hI hK (cf_W (w := 0) (by decide)) rfl) rfl hl.1 rfl (Nat.le_of_ble_eq_true rfl) dX0_now_116 ⟨Nat.le_of_ble_eq_true rfl, Nat.le_of_ble_eq_true rfl⟩) ?_
    exact W.iret hx hb hr (fun t ht _ => ⟨rI (by first | (simp only [a_now, aR, if_neg c_1_0, if_neg c_1_1, if_neg c_1_2, if_neg c_1_3, if_neg c_1_4, if_pos c_1_5]; done) | (simp [a_now, aR, c_1_0, c_1_1, c_1_2, c_1_3, c_1_4, c_1_5]; done)), by rw [ht]; exact hw_eq hI (congrArg (cfC D L) (by first | (rw []; simp only [a_now, aC, if_neg c_1_0, if_neg c_1_1, if_neg c_1_2, if_neg c_1_3, if_neg c_1_4, if_pos c_1_5]; done) | (simp only [a_now, aC, xs_self, if_neg c_1_0, if_neg c_1_1, if_neg c_1_2, if_neg c_1_3, if_neg c_1_4, if_pos c_1_5]; done) | (rw []; simp [a_now, aC, c_1_0, c_1_1, c_1_2, c_1_3, c_1_4, c_1_5]; done) | (simp [a_now, aC, c_1_0, c_1_1, c_1_2, c_1_3, c_1_4, c_1_5, xs_self]; done))), hS.F ht⟩) hS.2.2 dX0_now_119
  by_cases c_1_6 : w = 6
  · skip
    refine lv_tableIn (off := 119) (tgt := 120) hx hb dX0_now_1 (by rw [c_1_6]; decide) (by rw [c_1_6]; decide) (by rw [c_1_6]; rfl) (by decide) ?_
    refine lv_aload_n hx hb dX0_now_120 rfl (lv_at hl 0 rfl) ?_
    refine lv_aload_n hx hb dX0_now_121 rfl (lv_at hl 0 rfl) ?_
    refine r_get (C := RX0) (T := TX0) (N := 11) hx hb hts in_X0 hown hK hI (cf_main) rfl 3 (by decide) (hts _ q401) (fun _ h => h) rfl dX0_now_122 ?_
    refine c_r (k_V (As := []) (rest := [.ref (L 44)]) F (k_X4_now x 0 (by decide) (hO)) (cwV 0 hts (lw_V q717 q718 q719 q98 q720) rfl rfl rfl (by decide +kernel) ⟨Nat.le_of_ble_eq_true rfl, Nat.le_of_ble_eq_true rfl⟩) hI hK (hw.recv hI hK (cf_W (w := 0) (by decide)) rfl) rfl hl.1 rfl (Nat.le_of_ble_eq_true rfl) dX0_now_125 ⟨Nat.le_of_ble_eq_true rfl, Nat.le_of_ble_eq_true rfl⟩) ?_
    refine c_r (k_V (As := [.int (nwI (x.1 0))]) (rest := []) F (k_X0_hearers x (hO) (nwI (x.1 0))) (cwV 1 hts (lw_V q721 q723 qs10 q91 q724) rfl rfl rfl (by decide +kernel) ⟨Nat.le_of_ble_eq_true rfl, Nat.le_of_ble_eq_true rfl⟩) hI hK (hw.recv hI hK (cf_main) rfl) rfl hl.1 rfl (Nat.le_of_ble_eq_true rfl) dX0_now_128 ⟨Nat.le_of_ble_eq_true rfl, Nat.le_of_ble_eq_true rfl⟩) ?_
    exact W.iret hx hb hr (fun t ht _ => ⟨rI (by first | (simp only [a_now, aR, if_neg c_1_0, if_neg c_1_1, if_neg c_1_2, if_neg c_1_3, if_neg c_1_4, if_neg c_1_5, if_pos c_1_6]; done) | (simp [a_now, aR, c_1_0, c_1_1, c_1_2, c_1_3, c_1_4, c_1_5, c_1_6]; done)), by rw [ht]; exact hw_eq hI (congrArg (cfC D L) (by first | (rw []; simp only [a_now, aC, if_neg c_1_0, if_neg c_1_1, if_neg c_1_2, if_neg c_1_3, if_neg c_1_4, if_neg c_1_5, if_pos c_1_6]; done) | (simp only [a_now, aC, xs_self, if_neg c_1_0, if_neg c_1_1, if_neg c_1_2, if_neg c_1_3, if_neg c_1_4, if_neg c_1_5, if_pos c_1_6]; done) | (rw []; simp [a_now, aC, c_1_0, c_1_1, c_1_2, c_1_3, c_1_4, c_1_5, c_1_6]; done) | (simp [a_now, aC, c_1_0, c_1_1, c_1_2, c_1_3, c_1_4, c_1_5, c_1_6, xs_self]; done))), hS.F ht⟩) hS.2.2 dX0_now_131
  refine lv_tableOut (tgt := 132) hx hb dX0_now_1 (by have n0 := lv_neT c_1_0 (a := 0) (by decide); have n1 := lv_neT c_1_1 (a := 1) (by decide); have n2 := lv_neT c_1_2 (a := 2) (by decide); have n3 := lv_neT c_1_3 (a := 3) (by decide); have n4 := lv_neT c_1_4 (a := 4) (by decide); have n5 := lv_neT c_1_5 (a := 5) (by decide); have n6 := lv_neT c_1_6 (a := 6) (by decide); omega) (by decide) ?_
  refine lv_aload_n hx hb dX0_now_132 rfl (lv_at hl 0 rfl) ?_
  refine lv_iconst (v := 0) hx hb dX0_now_133 (by decide) ?_
  refine c_m (k_V (As := [.int 0]) (rest := []) F (k_X0_finding x 0 (by decide)) (cwV 1 hts (lw_V q457 q459 qs2 q91 q460) rfl rfl rfl (by decide +kernel) ⟨Nat.le_of_ble_eq_true rfl, Nat.le_of_ble_eq_true rfl⟩) hI hK (hw.recv hI hK (cf_main) rfl) rfl hl.1 rfl (Nat.le_of_ble_eq_true rfl) dX0_now_134 ⟨Nat.le_of_ble_eq_true rfl, Nat.le_of_ble_eq_true rfl⟩) hS (fun H1 locs1 hI hS => ?_)
  obtain ⟨x1, ex1⟩ : ∃ z, z = (fnd x 0) := ⟨_, rfl⟩
  rw [← ex1] at hI
  exact W.iret hx hb hr (fun t ht _ => ⟨rI (by first | (simp only [a_now, aR, if_neg c_1_0, if_neg c_1_1, if_neg c_1_2, if_neg c_1_3, if_neg c_1_4, if_neg c_1_5, if_neg c_1_6]; done) | (simp [a_now, aR, c_1_0, c_1_1, c_1_2, c_1_3, c_1_4, c_1_5, c_1_6]; done)), by rw [ht]; exact hw_eq hI (congrArg (cfC D L) (by first | (rw [ex1]; simp only [a_now, aC, if_neg c_1_0, if_neg c_1_1, if_neg c_1_2, if_neg c_1_3, if_neg c_1_4, if_neg c_1_5, if_neg c_1_6]; done) | (simp only [a_now, aC, xs_self, if_neg c_1_0, if_neg c_1_1, if_neg c_1_2, if_neg c_1_3, if_neg c_1_4, if_neg c_1_5, if_neg c_1_6]; done) | (rw [ex1]; simp [a_now, aC, c_1_0, c_1_1, c_1_2, c_1_3, c_1_4, c_1_5, c_1_6]; done) | (simp [a_now, aC, c_1_0, c_1_1, c_1_2, c_1_3, c_1_4, c_1_5, c_1_6, xs_self]; done))), hS.F ht⟩) hS.2.2 dX0_now_137
theorem k_X0_seed {l : Launch} {D : va_G} {L : Nat → Nat} {A : Nat → Prop} (x : cst) (v : Int32) : Met l yX0_seed (ws_ yX0_seed cX0_seed 3 (some .int)) ({ frames := 0, cells := 0, slots := 0, locals := 0 } : Room) (va_Pc [.ref (L 44), .int v] (pI D (cfC D L x) A)) (nQ D (cfC D L (aC x (a_seed (x.1 0) v))) A (some (.int (aR (a_seed (x.1 0) v))))) 0 0 A := by
  refine met_I (by decide) rfl (Nat.le_of_ble_eq_true rfl) ?_
  intro p e s m below meth c ls hx hb hr hml hown hts hlocks hl hI hK
  have F : CallFix p m c cX0_seed 3 s _ lw_all RX0 := ⟨hx, hb, hml, hown, hts⟩
  have hl : lv_has ls 3 [(0, .ref (L 44)), (1, .int v)] := hl
  have hS : va_S A s.heap s.heap [] := va_S.rf
  refine lv_aload_n hx hb dX0_seed_0 rfl (lv_at hl 0 rfl) ?_
  refine r_get (C := RX0) (T := TX0) (N := 11) hx hb hts in_X0 hown hK hI (cf_main) rfl 3 (by decide) (hts _ q401) (fun _ h => h) rfl dX0_seed_1 ?_
  refine r_getN (C := RX4) (T := TX4) (N := 7) hx hb hts in_X4 hown hK hI (cf_W (w := 0) (by decide)) rfl 5 (by decide) (nf_10 hK) (fun _ h => h) rfl dX0_seed_4 ?_
  refine lv_istore_n (lv' := [(2, .int (x.1 0 1 3)), (0, .ref (L 44)), (1, .int v)]) hx hb dX0_seed_7 rfl hl (by decide) rfl (fun ls hl => ?_)
  refine lv_aload_n hx hb dX0_seed_8 rfl (lv_at hl 1 rfl) ?_
  refine r_get (C := RX0) (T := TX0) (N := 11) hx hb hts in_X0 hown hK hI (cf_main) rfl 3 (by decide) (hts _ q401) (fun _ h => h) rfl dX0_seed_9 ?_
  refine lv_iload_n hx hb dX0_seed_12 rfl (lv_at hl 2 rfl) ?_
  obtain ⟨x1, ex1⟩ : ∃ z, z = xs x 0 (u2 (x.1 0) 1 3 v) := ⟨_, rfl⟩
  refine r_putN (C := RX4) (T := TX4) (N := 7) (cf' := cfC D L x1) hx hb hts in_X4 tyX4 tyX4_ok nmX4 hown hK hI hS (cf_W (w := 0) (by decide)) rfl 5 (by decide) (nf_10 hK) (fun _ h => h) rfl (ty := .int) (by decide +kernel) rfl rfl (Nat.le_of_ble_eq_true rfl) (by rw [ex1]; exact cs_sc (w := 0) (by decide) (by decide) rfl) dX0_seed_13 (fun H1 locs1 hI hS => ?_)
  refine lv_iload_n hx hb dX0_seed_16 rfl (lv_at hl 0 rfl) ?_
  exact W.iret hx hb hr (fun t ht _ => ⟨rI (by first | (simp only [a_seed, aR, ]; done) | (simp [a_seed, aR, ]; done)), by rw [ht]; exact hw_eq hI (congrArg (cfC D L) (ex1)), hS.F ht⟩) hS.2.2 dX0_seed_17
