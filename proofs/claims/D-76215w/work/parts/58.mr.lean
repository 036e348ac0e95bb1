/-! the model's reader: walks -/
def mdX (y : mst) (s : ms) : mst := ((ys y 0 s.1).1, u2 (u2 (u2 (u2 y.2.1 0 2 (nI s.2.1)) 0 4 (nI s.2.2.1)) 0 3 (nI s.2.2.2.1)) 0 5 (fI s.2.2.2.2.2), nL s.2.2.2.2.1)
section MX
variable (y : mst) (w : wd) (a b k v : Nat) (f : Option Nat)
theorem mx_1 : (mdX y (w, a, b, k, v, f)).2.1 0 1 = y.2.1 0 1 := by simp [mdX, u2_at]
theorem mx_2 : (mdX y (w, a, b, k, v, f)).2.1 0 2 = nI a := by simp [mdX, u2_at]
theorem mx_3 : (mdX y (w, a, b, k, v, f)).2.1 0 3 = nI k := by simp [mdX, u2_at]
theorem mx_4 : (mdX y (w, a, b, k, v, f)).2.1 0 4 = nI b := by simp [mdX, u2_at]
theorem mx_5 : (mdX y (w, a, b, k, v, f)).2.1 0 5 = fI f := by simp [mdX, u2_at]
theorem mx_r {r : Nat} (h : r ≠ 0) : (mdX y (w, a, b, k, v, f)).2.1 r = y.2.1 r := by funext c; simp [mdX, u2_at, h]
theorem mx_0 : (mdX y (w, a, b, k, v, f)).2.1 0 0 = y.2.1 0 0 := by simp [mdX, u2_at]
theorem mx_w : (mdX y (w, a, b, k, v, f)).1 0 = w := by simp [mdX, ys]
theorem mx_wn {j : Nat} (h : j ≠ 0) : (mdX y (w, a, b, k, v, f)).1 j = y.1 j := by simp [mdX, ys, h]
theorem mx_s2 (a' : Nat) : yr (mdX y (w, a, b, k, v, f)) 0 2 (nI a') = mdX y (w, a', b, k, v, f) := by
  refine Prod.ext rfl (Prod.ext ?_ rfl); funext r c; simp [mdX, yr, u2_at]; repeat' split <;> simp_all
theorem mx_s3 (k' : Nat) : yr (mdX y (w, a, b, k, v, f)) 0 3 (nI k') = mdX y (w, a, b, k', v, f) := by
  refine Prod.ext rfl (Prod.ext ?_ rfl); funext r c; simp [mdX, yr, u2_at]; repeat' split <;> simp_all
theorem mx_s4 (b' : Nat) : yr (mdX y (w, a, b, k, v, f)) 0 4 (nI b') = mdX y (w, a, b', k, v, f) := by
  refine Prod.ext rfl (Prod.ext ?_ rfl); funext r c; simp [mdX, yr, u2_at]; repeat' split <;> simp_all
theorem mx_s5 (f' : Option Nat) : yr (mdX y (w, a, b, k, v, f)) 0 5 (fI f') = mdX y (w, a, b, k, v, f') := by
  refine Prod.ext rfl (Prod.ext ?_ rfl); funext r c; simp [mdX, yr, u2_at]; repeat' split <;> simp_all
theorem mx_sv (v' : Nat) : ((mdX y (w, a, b, k, v, f)).1, (mdX y (w, a, b, k, v, f)).2.1, nL v') = mdX y (w, a, b, k, v', f) := rfl
theorem mx_xs (g : wd) : ys (mdX y (w, a, b, k, v, f)) 0 g = mdX y (g, a, b, k, v, f) := by
  refine Prod.ext ?_ rfl; funext j; simp [mdX, ys]; split <;> simp_all
end MX
theorem rdL {z z' : Int64} (h : z = z') : some (Value.long z) = some (.long z') := by rw [h]
def bvM (tp : Nat → Int32) (n k : Nat) : Int32 := if k < n then tp k else -1
def leI (c : Int32) : Int32 := if c < 97 then 0 else if 122 < c then 0 else c - 97 + 1
def rOkM (y : mst) (n : Nat) : Prop := y.2.1 0 1 = nI n ∧ n ≤ 120 ∧ tpOk (y.2.1 2)
section BM
variable {tp : Nat → Int32} {n j : Nat}
theorem bm_sp : bvM tp n j = 32 ↔ spB tp n j = true := by
  unfold bvM spB
  by_cases h : j < n
  · rw [if_pos h]; simp [h]
  · rw [if_neg h]; simp [h]
theorem bm_59 (h : j < n) : bvM tp n j = 59 ↔ tp j = 59 := by unfold bvM; rw [if_pos h]
theorem le_in (c : Int32) : leI c ≤ 0 → inI c 97 122 = 0 := by
  intro h
  unfold inI leI at *
  by_cases h1 : c < 97
  · rw [if_pos h1]
  · rw [if_neg h1] at h ⊢
    by_cases h2 : 122 < c
    · rw [if_pos h2]
    · rw [if_neg h2] at h
      exfalso
      have a1 := Int32.not_lt.mp h1
      have a2 := Int32.not_lt.mp h2
      rw [Int32.le_iff_toInt_le] at a1 a2 h
      have e1 : (97 : Int32).toInt = 97 := rfl
      have e2 : (122 : Int32).toInt = 122 := rfl
      have e0 : (0 : Int32).toInt = 0 := rfl
      have e3 : (c - 97 + 1).toInt = c.toInt - 97 + 1 := by
        rw [Int32.toInt_add, Int32.toInt_sub]
        have e4 : (1 : Int32).toInt = 1 := rfl
        rw [e1, e4]
        rw [Int.bmod_def, Int.bmod_def]
        show (if ((if (c.toInt - 97) % 4294967296 < (4294967296 + 1) / 2 then _ else _) + 1) % 4294967296 < (4294967296 + 1) / 2 then _ else _) = _
        split <;> split <;> omega
      omega
theorem le_no {c : Int32} (h : inI c 97 122 = 0) : leI c = 0 := by
  unfold inI leI at *
  by_cases h1 : c < 97
  · rw [if_pos h1]
  · rw [if_neg h1] at h ⊢
    by_cases h2 : 122 < c
    · rw [if_pos h2]
    · rw [if_neg h2] at h; exact absurd h (by decide)
theorem bm_lt : leI (bvM tp n j) ≤ 0 ↔ ltB tp n j = false := by
  unfold bvM ltB
  by_cases h : j < n
  · rw [if_pos h]
    constructor
    · intro z; simp [h, le_in _ z]
    · intro z
      have : inI (tp j) 97 122 = 0 := by simpa [h] using z
      rw [le_no this]; decide
  · rw [if_neg h]; simp [h]; decide
theorem bm_dg : inI (bvM tp n j) 48 57 = 0 ↔ dgB tp n j = false := by
  unfold bvM dgB
  by_cases h : j < n
  · rw [if_pos h]; simp [h]
  · rw [if_neg h]; simp [h]; decide
theorem bm_le (ht : tpOk tp) (hn : n ≤ 120) (h : ltB tp n j = true) : leI (bvM tp n j) = nI (ltN tp j) ∧ ltN tp j < 27 := by
  obtain ⟨h1, h2⟩ := of_decide_eq_true h
  obtain ⟨g1, -, g3, -⟩ := ltN_b ht hn h
  refine ⟨?_, g1⟩
  unfold bvM
  rw [if_pos h1]
  unfold leI
  unfold inI at h2
  by_cases c1 : tp j < 97
  · rw [if_pos c1] at h2; exact absurd rfl h2
  · rw [if_neg c1] at h2 ⊢
    by_cases c2 : 122 < tp j
    · rw [if_pos c2] at h2; exact absurd rfl h2
    · rw [if_neg c2]; exact g3
theorem bm_dv (ht : tpOk tp) (hn : n ≤ 120) (h : dgB tp n j = true) : bvM tp n j = nI (dgN tp j + 48) ∧ dgN tp j < 10 := by
  obtain ⟨h1, h2⟩ := of_decide_eq_true h
  obtain ⟨g1, g2, g3⟩ := (by_all (ht j (by omega))).2.2.2.2.2.1 h2
  refine ⟨?_, g2⟩
  unfold bvM
  rw [if_pos h1]
  rw [g3] at g1
  have : tp j = (tp j - 48) + 48 := (Int32.sub_add_cancel _ _).symm
  rw [this, g1]
  exact nI_add _ _
theorem wd_s {a i v' : Nat} (ht : tpOk tp) (hn : n ≤ 120) (hl : ltB tp n (a + i) = true) (h : ¬ 100000000000000000 < wdV tp a i) : nL (wdV tp a i) * 27 + (leI (bvM tp n (a + i))).toInt64 = nL (wdV tp a (i + 1)) := by
  obtain ⟨g1, g2⟩ := bm_le ht hn hl
  rw [g1, nI_L (by omega), show (27 : Int64) = nL 27 from rfl, nL_mul, nL_add]
  unfold wdV at h ⊢
  rw [itr_s, wvS, if_neg h, Nat.mul_comm]
theorem wd_k {a i : Nat} (h : 100000000000000000 < wdV tp a i) : wdV tp a (i + 1) = wdV tp a i := by
  unfold wdV at h ⊢; rw [itr_s, wvS, if_pos h]
theorem nm_s {a i : Nat} (ht : tpOk tp) (hn : n ≤ 120) (hl : dgB tp n (a + i) = true) (h : numV tp a i ≤ 99999) : nL (numV tp a i) * 10 + (bvM tp n (a + i)).toInt64 - 48 = nL (numV tp a (i + 1)) := by
  obtain ⟨g1, g2⟩ := bm_dv ht hn hl
  rw [g1, nI_L (by omega), show (10 : Int64) = nL 10 from rfl, show (48 : Int64) = nL 48 from rfl, nL_mul, nL_add, nL_sub (by omega), nu_s0 h]
  congr 1; omega
end BM
section NE
variable {tp : Nat → Int32} {n a b k v j i : Nat} {w : wd} {f : Option Nat}
theorem ne_e (hs : skB (spB tp n) a = j) : nextM tp n (w, a, b, k, v, f) = nxM tp n j w f := by show nxM tp n (skB (spB tp n) a) w f = _; rw [hs]
theorem ne_0 (hs : skB (spB tp n) a = j) (h : j = n) : nextM tp n (w, a, b, k, v, f) = (w, j, j, 0, 0, f) := by rw [ne_e hs, nxM, if_pos h.symm]
theorem ne_3 (hs : skB (spB tp n) a = j) (h : ¬ n = j) (h2 : tp j = 59) : nextM tp n (w, a, b, k, v, f) = (w, j + 1, j, 3, 0, f) := by rw [ne_e hs, nxM, if_neg h, if_pos h2]
theorem ne_1 (hs : skB (spB tp n) a = j) (h : ¬ n = j) (h2 : ¬ tp j = 59) (h3 : ltB tp n j = true) (h4 : skB (ltB tp n) j = j + i) : nextM tp n (w, a, b, k, v, f) = (w, j + i, j, 1, wdV tp j i, f) := by rw [ne_e hs, nxM, if_neg h, if_neg h2, if_pos h3, h4, Nat.add_sub_cancel_left]
theorem ne_2 (hs : skB (spB tp n) a = j) (h : ¬ n = j) (h2 : ¬ tp j = 59) (h3 : ltB tp n j = false) (h5 : dgB tp n j = true) (h4 : skB (dgB tp n) j = j + i) : nextM tp n (w, a, b, k, v, f) = (w, j + i, j, 2, numV tp j i, f) := by rw [ne_e hs, nxM, if_neg h, if_neg h2, if_neg (by rw [h3]; decide), if_pos h5, h4, Nat.add_sub_cancel_left]
theorem ne_4 (hs : skB (spB tp n) a = j) (h : ¬ n = j) (h2 : ¬ tp j = 59) (h3 : ltB tp n j = false) (h5 : dgB tp n j = false) : nextM tp n (w, a, b, k, v, f) = (w, j, j, 4, 0, f) := by rw [ne_e hs, nxM, if_neg h, if_neg h2, if_neg (by rw [h3]; decide), if_neg (by rw [h5]; decide)]
end NE
theorem k_X13_letter {l : Launch} (ch : Int32) : Met l yX13_letter (ws_ yX13_letter cX13_letter 1 (some .int)) ({ frames := 0, cells := 0, slots := 0, locals := 0 } : Room) (va_Pc [.int ch] pT) (rQ (.int (leI ch))) 0 0 nof := by
  refine met_T (by decide) rfl (Nat.le_of_ble_eq_true rfl) ?_
  intro p e s m below meth c ls hx hb hr hml hown hts hlocks hl
  have F : CallFix p m c cX13_letter 1 s _ lw_all RX13 := ⟨hx, hb, hml, hown, hts⟩
  have hl : lv_has ls 1 [(0, .int ch)] := hl
  refine lv_iload_n hx hb dX13_letter_0 rfl (lv_at hl 0 rfl) ?_
  refine lv_bipush (v := 97) hx hb dX13_letter_1 (by decide) ?_
  refine lv_icmp_lt (tgt := 21) hx hb dX13_letter_3 (by decide) (fun c_3 => ?_) (fun c_3 => ?_)
  · skip
    refine lv_iconst (v := 0) hx hb dX13_letter_21 (by decide) ?_
    exact W.iret hx hb hr (fun t ht _ => ⟨rI (by simp [leI, c_3]), ht⟩) (fun q h => by cases h) dX13_letter_22
  · skip
    refine lv_iload_n hx hb dX13_letter_6 rfl (lv_at hl 0 rfl) ?_
    refine lv_bipush (v := 122) hx hb dX13_letter_7 (by decide) ?_
    refine lv_icmp_gt (tgt := 21) hx hb dX13_letter_9 (by decide) (fun c_9 => ?_) (fun c_9 => ?_)
    · skip
      refine lv_iconst (v := 0) hx hb dX13_letter_21 (by decide) ?_
      exact W.iret hx hb hr (fun t ht _ => ⟨rI (by simp [leI, c_3, c_9]), ht⟩) (fun q h => by cases h) dX13_letter_22
    · skip
      refine lv_iload_n hx hb dX13_letter_12 rfl (lv_at hl 0 rfl) ?_
      refine lv_bipush (v := 97) hx hb dX13_letter_13 (by decide) ?_
      refine lv_isub hx hb dX13_letter_15 ?_
      refine lv_iconst (v := 1) hx hb dX13_letter_16 (by decide) ?_
      refine lv_iadd hx hb dX13_letter_17 ?_
      refine lv_goto (tgt := 22) hx hb dX13_letter_18 (by decide) ?_
      exact W.iret hx hb hr (fun t ht _ => ⟨rI (by simp [leI, c_3, c_9]), ht⟩) (fun q h => by cases h) dX13_letter_22
theorem k_X13_isDigit {l : Launch} (ch : Int32) : Met l yX13_isDigit (ws_ yX13_isDigit cX13_isDigit 1 (some .boolean)) ({ frames := 0, cells := 0, slots := 0, locals := 0 } : Room) (va_Pc [.int ch] pT) (rQ (.int (inI ch 48 57))) 0 0 nof := by
  refine met_T (by decide) rfl (Nat.le_of_ble_eq_true rfl) ?_
  intro p e s m below meth c ls hx hb hr hml hown hts hlocks hl
  have F : CallFix p m c cX13_isDigit 1 s _ lw_all RX13 := ⟨hx, hb, hml, hown, hts⟩
  have hl : lv_has ls 1 [(0, .int ch)] := hl
  refine lv_iload_n hx hb dX13_isDigit_0 rfl (lv_at hl 0 rfl) ?_
  refine lv_bipush (v := 48) hx hb dX13_isDigit_1 (by decide) ?_
  refine lv_icmp_lt (tgt := 16) hx hb dX13_isDigit_3 (by decide) (fun c_3 => ?_) (fun c_3 => ?_)
  · skip
    refine lv_iconst (v := 0) hx hb dX13_isDigit_16 (by decide) ?_
    exact W.zret hx hb hr (rfl) (fun t ht _ => ⟨rI (by simp [inI, c_3]), ht⟩) (fun q h => by cases h) dX13_isDigit_17
  · skip
    refine lv_iload_n hx hb dX13_isDigit_6 rfl (lv_at hl 0 rfl) ?_
    refine lv_bipush (v := 57) hx hb dX13_isDigit_7 (by decide) ?_
    refine lv_icmp_gt (tgt := 16) hx hb dX13_isDigit_9 (by decide) (fun c_9 => ?_) (fun c_9 => ?_)
    · skip
      refine lv_iconst (v := 0) hx hb dX13_isDigit_16 (by decide) ?_
      exact W.zret hx hb hr (rfl) (fun t ht _ => ⟨rI (by simp [inI, c_3, c_9]), ht⟩) (fun q h => by cases h) dX13_isDigit_17
    · skip
      refine lv_iconst (v := 1) hx hb dX13_isDigit_12 (by decide) ?_
      refine lv_goto (tgt := 17) hx hb dX13_isDigit_13 (by decide) ?_
      exact W.zret hx hb hr (rfl) (fun t ht _ => ⟨rI (by simp [inI, c_3, c_9]), ht⟩) (fun q h => by cases h) dX13_isDigit_17
theorem k_X13_byteAt {l : Launch} {D : va_G} {L : Nat → Nat} {A : Nat → Prop} (y : mst) (n : Nat) (hR : rOkM y n) (w : wd) (a b k v : Nat) (f : Option Nat) (j : Nat) (hj : j < 1000) : Met l yX13_byteAt (ws_ yX13_byteAt cX13_byteAt 2 (some .int)) ({ frames := 0, cells := 0, slots := 0, locals := 0 } : Room) (va_Pc [.ref (L 0), .int (nI j)] (pI D (cfM D L (mdX y (w, a, b, k, v, f))) A)) (rQ (.int (bvM (y.2.1 2) n j))) 0 0 nof := by
  refine met_I (by decide) rfl (Nat.le_of_ble_eq_true rfl) ?_
  intro p e s m below meth c ls hx hb hr hml hown hts hlocks hl hI hK
  have F : CallFix p m c cX13_byteAt 2 s _ lw_all RX13 := ⟨hx, hb, hml, hown, hts⟩
  have hl : lv_has ls 2 [(0, .ref (L 0)), (1, .int (nI j))] := hl
  obtain ⟨hrn, hrN, hrt⟩ := id hR
  refine lv_iload_n hx hb dX13_byteAt_0 rfl (lv_at hl 1 rfl) ?_
  refine lv_aload_n hx hb dX13_byteAt_1 rfl (lv_at hl 0 rfl) ?_
  refine r_get (v := .int (nI n)) (C := RX13) (T := TX13) (N := 18) hx hb hts in_X13 hown hK hI (mf_main) rfl 7 (by decide) (hts _ q1171) (fun _ h => h) (rdv ((mx_1 y w a b k v f).trans hrn)) dX13_byteAt_2 ?_
  refine lv_icmp_ge (tgt := 17) hx hb dX13_byteAt_5 (by decide) (fun c_5 => ?_) (fun c_5 => ?_)
  · skip
    have c_5 : n ≤ j := (nle (a := n) (b := j) (rfl) (rfl) (by omega) (by omega)).mp c_5
    refine lv_iconst (v := (-1)) hx hb dX13_byteAt_17 (by decide) ?_
    exact W.iret hx hb hr (fun t ht _ => ⟨rI (by unfold bvM; first | rw [if_pos (by omega)] | rw [if_neg (by omega)]), ht⟩) (fun q h => by cases h) dX13_byteAt_18
  · skip
    have c_5 : ¬ n ≤ j := fun z => c_5 ((nle (a := n) (b := j) (rfl) (rfl) (by omega) (by omega)).mpr z)
    refine lv_aload_n hx hb dX13_byteAt_8 rfl (lv_at hl 0 rfl) ?_
    refine r_get (C := RX13) (T := TX13) (N := 18) hx hb hts in_X13 hown hK hI (mf_main) rfl 6 (by decide) (hts _ q1170) (fun _ h => h) rfl dX13_byteAt_9 ?_
    refine lv_iload_n hx hb dX13_byteAt_12 rfl (lv_at hl 1 rfl) ?_
    refine n_bald (k := j) hx hb hK hI (mf_tape) (rfl) (by omega) (by decide) dX13_byteAt_13 ?_
    rw [mx_r y w a b k v f (by decide)]
    refine lv_goto (tgt := 18) hx hb dX13_byteAt_14 (by decide) ?_
    exact W.iret hx hb hr (fun t ht _ => ⟨rI (by unfold bvM; first | rw [if_pos (by omega)] | rw [if_neg (by omega)]), ht⟩) (fun q h => by cases h) dX13_byteAt_18
theorem k_X13_next {l : Launch} {D : va_G} {L : Nat → Nat} {A : Nat → Prop} (y : mst) (n : Nat) (hR : rOkM y n) (w : wd) (a b k v : Nat) (f : Option Nat) (hs : msW n (w, a, b, k, v, f)) : Met l yX13_next (ws_ yX13_next cX13_next 2 none) ({ frames := 1, cells := 0, slots := 0, locals := 21 } : Room) (va_Pc [.ref (L 0)] (pI D (cfM D L (mdX y (w, a, b, k, v, f))) A)) (nQ D (cfM D L (mdX y (nextM (y.2.1 2) n (w, a, b, k, v, f)))) A none) 0 0 A := by
  refine met_I (by decide) rfl (Nat.le_of_ble_eq_true rfl) ?_
  intro p e s m below meth c ls hx hb hr hml hown hts hlocks hl hI hK
  have F : CallFix p m c cX13_next 2 s _ lw_all RX13 := ⟨hx, hb, hml, hown, hts⟩
  have hl : lv_has ls 2 [(0, .ref (L 0))] := hl
  have hS : va_S A s.heap s.heap [] := va_S.rf
  obtain ⟨hrn, hrN, hrt⟩ := id hR
  obtain ⟨ho0, ha0, hf0⟩ : wOk w ∧ a ≤ n ∧ (∀ b, f = some b → b ≤ 120) := ⟨hs.1, hs.2.1, hs.2.2⟩
  have lp0 : ∀ (fuel : Nat) (j : Nat), (a ≤ j) → (j ≤ n) → (∀ i, a ≤ i → i < j → spB (y.2.1 2) n i = true) → n - j < fuel → ∀ (H : Heap) (locs : List Loc), hw D (cfM D L (mdX y (w, j, b, k, v, f))) A H → va_S A s.heap H locs → ∀ (ls : Array Slot), lv_has ls 2 [(0, .ref (L 0))] → W p l e ({ frames := 1, cells := 0, slots := 0, locals := 21 } : Room) s m ([.ref (L 0)] : List Value).toArray below meth c H locs 0 0 (MQ below (nQ D (cfM D L (mdX y (nextM (y.2.1 2) n (w, a, b, k, v, f)))) A none) ([.ref (L 0)] : List Value).toArray s 0 0 A) (F0 m 0 ls []) := by
    intro fuel
    induction fuel with
    | zero => intro j hj1 hj2 hj3 hf; exact absurd hf (Nat.not_lt_zero _)
    | succ fuel ih0 =>
      intro j hj1 hj2 hj3 hf0 H locs hI hS ls hl
      refine lv_aload_n hx hb dX13_next_0 rfl (lv_at hl 0 rfl) ?_
      refine lv_aload_n hx hb dX13_next_1 rfl (lv_at hl 0 rfl) ?_
      refine r_get (v := .int (nI j)) (C := RX13) (T := TX13) (N := 18) hx hb hts in_X13 hown hK hI (mf_main) rfl 9 (by decide) (hts _ q1173) (fun _ h => h) (rdv (mx_2 y w j b k v f)) dX13_next_2 ?_
      refine c_r (k_V (As := [.int (nI j)]) (rest := []) F (k_X13_byteAt y n hR w j b k v f j (by omega)) (cwV 1 hts (lw_V q1509 q1511 qs79 q107 q1512) rfl rfl rfl (by decide +kernel) ⟨Nat.le_of_ble_eq_true rfl, Nat.le_of_ble_eq_true rfl⟩) hI hK (hw.recv hI hK (mf_main) rfl) rfl hl.1 rfl (Nat.le_of_ble_eq_true rfl) dX13_next_5 ⟨Nat.le_of_ble_eq_true rfl, Nat.le_of_ble_eq_true rfl⟩) ?_
      refine lv_bipush (v := 32) hx hb dX13_next_8 (by decide) ?_
      refine lv_icmp_ne (tgt := 26) hx hb dX13_next_10 (by decide) (fun c_10 => ?_) (fun c_10 => ?_)
      · skip
        have hsk : skB (spB (y.2.1 2) n) a = j := sk_uq hj1 (by omega) hj3 (by cases hc : spB (y.2.1 2) n j with | false => rfl | true => exact absurd (bm_sp.mpr hc) c_10)
        refine lv_aload_n hx hb dX13_next_26 rfl (lv_at hl 0 rfl) ?_
        refine lv_aload_n hx hb dX13_next_27 rfl (lv_at hl 0 rfl) ?_
        refine r_get (v := .int (nI j)) (C := RX13) (T := TX13) (N := 18) hx hb hts in_X13 hown hK hI (mf_main) rfl 9 (by decide) (hts _ q1173) (fun _ h => h) (rdv (mx_2 y w j b k v f)) dX13_next_28 ?_
        refine r_put (C := RX13) (T := TX13) (N := 18) (cf' := cfM D L (yr (mdX y (w, j, b, k, v, f)) 0 4 (nI j))) hx hb hts in_X13 tyX13 tyX13_ok nmX13 hown hK hI hS (mf_main) rfl 11 (by decide) (hts _ q1175) (fun _ h => h) rfl (ty := .int) (by decide +kernel) rfl rfl (Nat.le_of_ble_eq_true rfl) (ms_main rfl (fun _ => rfl) (fun _ h => u2_ne h)) dX13_next_31 (fun H1 locs1 hI hS => ?_)
        rw [mx_s4] at hI
        refine lv_aload_n hx hb dX13_next_34 rfl (lv_at hl 0 rfl) ?_
        refine lv_lconst (v := 0) hx hb dX13_next_35 (by decide) ?_
        refine r_put (C := RX13) (T := TX13) (N := 18) (cf' := cfM D L ((mdX y (w, j, j, k, v, f)).1, (mdX y (w, j, j, k, v, f)).2.1, nL 0)) hx hb hts in_X13 tyX13 tyX13_ok nmX13 hown hK hI hS (mf_main) rfl 12 (by decide) (hts _ q1176) (fun _ h => h) rfl (ty := .long) (by decide +kernel) rfl rfl (Nat.le_of_ble_eq_true rfl) (ms_main rfl (fun _ => rfl) (fun _ _ => rfl)) dX13_next_36 (fun H1 locs1 hI hS => ?_)
        rw [mx_sv] at hI
        refine lv_aload_n hx hb dX13_next_39 rfl (lv_at hl 0 rfl) ?_
        refine lv_aload_n hx hb dX13_next_40 rfl (lv_at hl 0 rfl) ?_
        refine r_get (v := .int (nI j)) (C := RX13) (T := TX13) (N := 18) hx hb hts in_X13 hown hK hI (mf_main) rfl 9 (by decide) (hts _ q1173) (fun _ h => h) (rdv (mx_2 y w j j k 0 f)) dX13_next_41 ?_
        refine c_r (k_V (As := [.int (nI j)]) (rest := []) F (k_X13_byteAt y n hR w j j k 0 f j (by omega)) (cwV 1 hts (lw_V q1509 q1511 qs79 q107 q1512) rfl rfl rfl (by decide +kernel) ⟨Nat.le_of_ble_eq_true rfl, Nat.le_of_ble_eq_true rfl⟩) hI hK (hw.recv hI hK (mf_main) rfl) rfl hl.1 rfl (Nat.le_of_ble_eq_true rfl) dX13_next_44 ⟨Nat.le_of_ble_eq_true rfl, Nat.le_of_ble_eq_true rfl⟩) ?_
        refine lv_istore_n (lv' := [(1, .int (bvM (y.2.1 2) n j)), (0, .ref (L 0))]) hx hb dX13_next_47 rfl hl (by decide) rfl (fun ls hl => ?_)
        refine lv_aload_n hx hb dX13_next_48 rfl (lv_at hl 1 rfl) ?_
        refine r_get (v := .int (nI j)) (C := RX13) (T := TX13) (N := 18) hx hb hts in_X13 hown hK hI (mf_main) rfl 9 (by decide) (hts _ q1173) (fun _ h => h) (rdv (mx_2 y w j j k 0 f)) dX13_next_49 ?_
        refine lv_aload_n hx hb dX13_next_52 rfl (lv_at hl 1 rfl) ?_
        refine r_get (v := .int (nI n)) (C := RX13) (T := TX13) (N := 18) hx hb hts in_X13 hown hK hI (mf_main) rfl 7 (by decide) (hts _ q1171) (fun _ h => h) (rdv ((mx_1 y w j j k 0 f).trans hrn)) dX13_next_53 ?_
        refine lv_icmp_ne (tgt := 67) hx hb dX13_next_56 (by decide) (fun c_56 => ?_) (fun c_56 => ?_)
        · skip
          have c_56 : ¬ j = n := fun z => c_56 ((neq (a := j) (b := n) (rfl) (rfl) (by omega) (by omega)).mpr z)
          refine lv_iload_n hx hb dX13_next_67 rfl (lv_at hl 0 rfl) ?_
          refine lv_bipush (v := 59) hx hb dX13_next_68 (by decide) ?_
          refine lv_icmp_ne (tgt := 91) hx hb dX13_next_70 (by decide) (fun c_70 => ?_) (fun c_70 => ?_)
          · skip
            have c_70 : ¬ y.2.1 2 j = 59 := fun z => c_70 ((bm_59 (by omega)).mpr z)
            refine lv_iload_n hx hb dX13_next_91 rfl (lv_at hl 0 rfl) ?_
            refine c_r (k_S (As := [.int (bvM (y.2.1 2) n j)]) (rest := []) F (k_X13_letter (bvM (y.2.1 2) n j)) (va_cwS 1 hts (lw_S q1513 q1514 q107 q1515) rfl rfl rfl (by decide +kernel) ⟨Nat.le_of_ble_eq_true rfl, Nat.le_of_ble_eq_true rfl⟩) rfl hl.1 rfl (Nat.le_of_ble_eq_true rfl) dX13_next_92 ⟨Nat.le_of_ble_eq_true rfl, Nat.le_of_ble_eq_true rfl⟩) ?_
            refine lv_if_le (tgt := 173) hx hb dX13_next_95 (by decide) (fun c_95 => ?_) (fun c_95 => ?_)
            · skip
              have c_95 := Int32.not_lt.mpr c_95
              have hlt : ltB (y.2.1 2) n j = false := bm_lt.mp (Int32.not_lt.mp c_95)
              refine lv_iload_n hx hb dX13_next_173 rfl (lv_at hl 0 rfl) ?_
              refine c_r (k_S (As := [.int (bvM (y.2.1 2) n j)]) (rest := []) F (k_X13_isDigit (bvM (y.2.1 2) n j)) (va_cwS 1 hts (lw_S q1518 q1519 q107 q1520) rfl rfl rfl (by decide +kernel) ⟨Nat.le_of_ble_eq_true rfl, Nat.le_of_ble_eq_true rfl⟩) rfl hl.1 rfl (Nat.le_of_ble_eq_true rfl) dX13_next_174 ⟨Nat.le_of_ble_eq_true rfl, Nat.le_of_ble_eq_true rfl⟩) ?_
              refine lv_if_eq (tgt := 256) hx hb dX13_next_177 (by decide) (fun c_177 => ?_) (fun c_177 => ?_)
              · skip
                have hdg : dgB (y.2.1 2) n j = false := bm_dg.mp c_177
                refine lv_aload_n hx hb dX13_next_256 rfl (lv_at hl 1 rfl) ?_
                refine lv_iconst (v := 4) hx hb dX13_next_257 (by decide) ?_
                refine r_put (C := RX13) (T := TX13) (N := 18) (cf' := cfM D L (yr (mdX y (w, j, j, k, 0, f)) 0 3 (nI 4))) hx hb hts in_X13 tyX13 tyX13_ok nmX13 hown hK hI hS (mf_main) rfl 10 (by decide) (hts _ q1174) (fun _ h => h) rfl (ty := .int) (by decide +kernel) rfl rfl (Nat.le_of_ble_eq_true rfl) (ms_main rfl (fun _ => rfl) (fun _ h => u2_ne h)) dX13_next_258 (fun H1 locs1 hI hS => ?_)
                rw [mx_s3] at hI
                exact W.vret hx hb hr (fun t ht _ => ⟨rfl, by rw [ht]; exact hw_eq hI (congrArg (fun z => cfM D L (mdX y z)) (by first | (rw [ne_0 hsk c_56]; done) | (rw [ne_3 hsk (by omega) c_70]; done) | (rw [ne_1 hsk (by omega) c_70 hlt hsl]; done) | (rw [ne_2 hsk (by omega) c_70 hlt hdg hsl]; done) | (rw [ne_4 hsk (by omega) c_70 hlt hdg]))), hS.F ht⟩) hS.2.2 dX13_next_261
              · skip
                have hdg : dgB (y.2.1 2) n j = true := bt (fun z => c_177 (bm_dg.mpr z))
                refine lv_aload_n hx hb dX13_next_180 rfl (lv_at hl 1 rfl) ?_
                refine lv_iconst (v := 2) hx hb dX13_next_181 (by decide) ?_
                refine r_put (C := RX13) (T := TX13) (N := 18) (cf' := cfM D L (yr (mdX y (w, j, j, k, 0, f)) 0 3 (nI 2))) hx hb hts in_X13 tyX13 tyX13_ok nmX13 hown hK hI hS (mf_main) rfl 10 (by decide) (hts _ q1174) (fun _ h => h) rfl (ty := .int) (by decide +kernel) rfl rfl (Nat.le_of_ble_eq_true rfl) (ms_main rfl (fun _ => rfl) (fun _ h => u2_ne h)) dX13_next_182 (fun H1 locs1 hI hS => ?_)
                rw [mx_s3] at hI
                have lp185 : ∀ (fuel : Nat) (i : Nat), (j + i ≤ n) → (∀ q, j ≤ q → q < j + i → dgB (y.2.1 2) n q = true) → n - (j + i) < fuel → ∀ (H : Heap) (locs : List Loc), hw D (cfM D L (mdX y (w, j + i, j, 2, numV (y.2.1 2) j i, f))) A H → va_S A s.heap H locs → ∀ (ls : Array Slot), lv_has ls 2 [(0, .ref (L 0)), (1, .int (bvM (y.2.1 2) n j))] → W p l e ({ frames := 1, cells := 0, slots := 0, locals := 21 } : Room) s m ([.ref (L 0)] : List Value).toArray below meth c H locs 0 0 (MQ below (nQ D (cfM D L (mdX y (nextM (y.2.1 2) n (w, a, b, k, v, f)))) A none) ([.ref (L 0)] : List Value).toArray s 0 0 A) (F0 m 185 ls []) := by
                  intro fuel
                  induction fuel with
                  | zero => intro i hi1 hi3 hf; exact absurd hf (Nat.not_lt_zero _)
                  | succ fuel ih185 =>
                    intro i hi1 hi3 hf185 H locs hI hS ls hl
                    have hnv : numV (y.2.1 2) j i < 1000010 := nu_at (hN := hrN) hrt hi3
                    refine lv_aload_n hx hb dX13_next_185 rfl (lv_at hl 0 rfl) ?_
                    refine lv_aload_n hx hb dX13_next_186 rfl (lv_at hl 0 rfl) ?_
                    refine r_get (v := .int (nI (j + i))) (C := RX13) (T := TX13) (N := 18) hx hb hts in_X13 hown hK hI (mf_main) rfl 9 (by decide) (hts _ q1173) (fun _ h => h) (rdv (mx_2 y w (j + i) j 2 (numV (y.2.1 2) j i) f)) dX13_next_187 ?_
                    refine c_r (k_V (As := [.int (nI (j + i))]) (rest := []) F (k_X13_byteAt y n hR w (j + i) j 2 (numV (y.2.1 2) j i) f (j + i) (by omega)) (cwV 1 hts (lw_V q1509 q1511 qs79 q107 q1512) rfl rfl rfl (by decide +kernel) ⟨Nat.le_of_ble_eq_true rfl, Nat.le_of_ble_eq_true rfl⟩) hI hK (hw.recv hI hK (mf_main) rfl) rfl hl.1 rfl (Nat.le_of_ble_eq_true rfl) dX13_next_190 ⟨Nat.le_of_ble_eq_true rfl, Nat.le_of_ble_eq_true rfl⟩) ?_
                    refine c_r (k_S (As := [.int (bvM (y.2.1 2) n (j + i))]) (rest := []) F (k_X13_isDigit (bvM (y.2.1 2) n (j + i))) (va_cwS 1 hts (lw_S q1518 q1519 q107 q1520) rfl rfl rfl (by decide +kernel) ⟨Nat.le_of_ble_eq_true rfl, Nat.le_of_ble_eq_true rfl⟩) rfl hl.1 rfl (Nat.le_of_ble_eq_true rfl) dX13_next_193 ⟨Nat.le_of_ble_eq_true rfl, Nat.le_of_ble_eq_true rfl⟩) ?_
                    refine lv_if_eq (tgt := 261) hx hb dX13_next_196 (by decide) (fun c_196 => ?_) (fun c_196 => ?_)
                    · skip
                      have hsl : skB (dgB (y.2.1 2) n) j = j + i := sk_uq (by omega) (by omega) hi3 (bm_dg.mp c_196)
                      exact W.vret hx hb hr (fun t ht _ => ⟨rfl, by rw [ht]; exact hw_eq hI (congrArg (fun z => cfM D L (mdX y z)) (by first | (rw [ne_0 hsk c_56]; done) | (rw [ne_3 hsk (by omega) c_70]; done) | (rw [ne_1 hsk (by omega) c_70 hlt hsl]; done) | (rw [ne_2 hsk (by omega) c_70 hlt hdg hsl]; done) | (rw [ne_4 hsk (by omega) c_70 hlt hdg]))), hS.F ht⟩) hS.2.2 dX13_next_261
                    · skip
                      have hb1 : dgB (y.2.1 2) n (j + i) = true := bt (fun z => c_196 (bm_dg.mpr z))
                      have hb2 := dgB_lt (j + i) hb1
                      refine lv_aload_n hx hb dX13_next_199 rfl (lv_at hl 0 rfl) ?_
                      refine lv_aload_n hx hb dX13_next_200 rfl (lv_at hl 0 rfl) ?_
                      refine r_get (v := .long (nL (numV (y.2.1 2) j i))) (C := RX13) (T := TX13) (N := 18) hx hb hts in_X13 hown hK hI (mf_main) rfl 12 (by decide) (hts _ q1176) (fun _ h => h) (rfl) dX13_next_201 ?_
                      refine lv_ldc2 (v := 99999) hx hb hown (hts _ q1521) dX13_next_204 ?_
                      refine W.lcmp hx hb dX13_next_207 ?_
                      refine lv_if_le (tgt := 218) hx hb dX13_next_208 (by decide) (fun c_208 => ?_) (fun c_208 => ?_)
                      · skip
                        have c_208 := Int32.not_lt.mpr c_208
                        have c_208 : numV (y.2.1 2) j i ≤ 99999 := Nat.le_of_not_lt (fun z => c_208 ((lg_cmp_gt _ _).mpr ((nL_lt (a := 99999) (by decide) (by omega)).mpr z)))
                        refine lv_aload_n hx hb dX13_next_218 rfl (lv_at hl 0 rfl) ?_
                        refine r_get (v := .long (nL (numV (y.2.1 2) j i))) (C := RX13) (T := TX13) (N := 18) hx hb hts in_X13 hown hK hI (mf_main) rfl 12 (by decide) (hts _ q1176) (fun _ h => h) (rfl) dX13_next_219 ?_
                        refine lv_ldc2 (v := 10) hx hb hown (hts _ q1293) dX13_next_222 ?_
                        refine lv_lmul hx hb dX13_next_225 ?_
                        refine lv_aload_n hx hb dX13_next_226 rfl (lv_at hl 0 rfl) ?_
                        refine lv_aload_n hx hb dX13_next_227 rfl (lv_at hl 0 rfl) ?_
                        refine r_get (v := .int (nI (j + i))) (C := RX13) (T := TX13) (N := 18) hx hb hts in_X13 hown hK hI (mf_main) rfl 9 (by decide) (hts _ q1173) (fun _ h => h) (rdv (mx_2 y w (j + i) j 2 (numV (y.2.1 2) j i) f)) dX13_next_228 ?_
                        refine c_r (k_V (As := [.int (nI (j + i))]) (rest := [.long ((nL (numV (y.2.1 2) j i)) * (10 : Int64)), .ref (L 0)]) F (k_X13_byteAt y n hR w (j + i) j 2 (numV (y.2.1 2) j i) f (j + i) (by omega)) (cwV 1 hts (lw_V q1509 q1511 qs79 q107 q1512) rfl rfl rfl (by decide +kernel) ⟨Nat.le_of_ble_eq_true rfl, Nat.le_of_ble_eq_true rfl⟩) hI hK (hw.recv hI hK (mf_main) rfl) rfl hl.1 rfl (Nat.le_of_ble_eq_true rfl) dX13_next_231 ⟨Nat.le_of_ble_eq_true rfl, Nat.le_of_ble_eq_true rfl⟩) ?_
                        refine lv_i2l (v := ((bvM (y.2.1 2) n (j + i)) : Int32).toInt64) hx hb dX13_next_234 rfl ?_
                        refine lv_ladd hx hb dX13_next_235 ?_
                        refine lv_ldc2 (v := 48) hx hb hown (hts _ q1522) dX13_next_236 ?_
                        refine lv_lsub hx hb dX13_next_239 ?_
                        rw [show ((((nL (numV (y.2.1 2) j i)) * (10 : Int64)) + (((bvM (y.2.1 2) n (j + i)) : Int32).toInt64)) - (48 : Int64)) = nL (numV (y.2.1 2) j (i + 1)) from nm_s hrt hrN hb1 c_208]
                        refine r_put (C := RX13) (T := TX13) (N := 18) (cf' := cfM D L ((mdX y (w, j + i, j, 2, numV (y.2.1 2) j i, f)).1, (mdX y (w, j + i, j, 2, numV (y.2.1 2) j i, f)).2.1, nL (numV (y.2.1 2) j (i + 1)))) hx hb hts in_X13 tyX13 tyX13_ok nmX13 hown hK hI hS (mf_main) rfl 12 (by decide) (hts _ q1176) (fun _ h => h) rfl (ty := .long) (by decide +kernel) rfl rfl (Nat.le_of_ble_eq_true rfl) (ms_main rfl (fun _ => rfl) (fun _ _ => rfl)) dX13_next_240 (fun H1 locs1 hI hS => ?_)
                        rw [mx_sv] at hI
                        refine lv_aload_n hx hb dX13_next_243 rfl (lv_at hl 0 rfl) ?_
                        refine lv_dup hx hb dX13_next_244 rfl ?_
                        refine r_get (v := .int (nI (j + i))) (C := RX13) (T := TX13) (N := 18) hx hb hts in_X13 hown hK hI (mf_main) rfl 9 (by decide) (hts _ q1173) (fun _ h => h) (rdv (mx_2 y w (j + i) j 2 (numV (y.2.1 2) j (i + 1)) f)) dX13_next_245 ?_
                        refine lv_iconst (v := 1) hx hb dX13_next_248 (by decide) ?_
                        refine lv_iadd hx hb dX13_next_249 ?_
                        rw [show ((nI (j + i)) + (1 : Int32)) = nI ((j + i) + 1) from na_add (rfl) (rfl)]
                        refine r_put (C := RX13) (T := TX13) (N := 18) (cf' := cfM D L (yr (mdX y (w, j + i, j, 2, numV (y.2.1 2) j (i + 1), f)) 0 2 (nI ((j + i) + 1)))) hx hb hts in_X13 tyX13 tyX13_ok nmX13 hown hK hI hS (mf_main) rfl 9 (by decide) (hts _ q1173) (fun _ h => h) rfl (ty := .int) (by decide +kernel) rfl rfl (Nat.le_of_ble_eq_true rfl) (ms_main rfl (fun _ => rfl) (fun _ h => u2_ne h)) dX13_next_250 (fun H1 locs1 hI hS => ?_)
                        rw [mx_s2] at hI
                        refine lv_goto (tgt := 185) hx hb dX13_next_253 (by decide) ?_
                        exact ih185 (i + 1) (by omega) (fun q h1 h2 => by by_cases e9 : q = j + i; exact e9 ▸ hb1; exact hi3 q h1 (by omega)) (by omega) _ _ (by first | exact hI | (rw [nu_s1 c_208]; exact hI)) hS ls (lv_sub hl [0, 1] rfl)
                      · skip
                        have c_208 := Int32.not_le.mp c_208
                        have c_208 : ¬ numV (y.2.1 2) j i ≤ 99999 := Nat.not_le.mpr ((nL_lt (a := 99999) (by decide) (by omega)).mp ((lg_cmp_gt _ _).mp c_208))
                        refine lv_aload_n hx hb dX13_next_211 rfl (lv_at hl 0 rfl) ?_
                        refine r_get (v := .long (nL (numV (y.2.1 2) j i))) (C := RX13) (T := TX13) (N := 18) hx hb hts in_X13 hown hK hI (mf_main) rfl 12 (by decide) (hts _ q1176) (fun _ h => h) (rfl) dX13_next_212 ?_
                        refine lv_goto (tgt := 240) hx hb dX13_next_215 (by decide) ?_
                        refine r_put (C := RX13) (T := TX13) (N := 18) (cf' := cfM D L ((mdX y (w, j + i, j, 2, numV (y.2.1 2) j i, f)).1, (mdX y (w, j + i, j, 2, numV (y.2.1 2) j i, f)).2.1, nL (numV (y.2.1 2) j i))) hx hb hts in_X13 tyX13 tyX13_ok nmX13 hown hK hI hS (mf_main) rfl 12 (by decide) (hts _ q1176) (fun _ h => h) rfl (ty := .long) (by decide +kernel) rfl rfl (Nat.le_of_ble_eq_true rfl) (ms_main rfl (fun _ => rfl) (fun _ _ => rfl)) dX13_next_240 (fun H1 locs1 hI hS => ?_)
                        rw [mx_sv] at hI
                        refine lv_aload_n hx hb dX13_next_243 rfl (lv_at hl 0 rfl) ?_
                        refine lv_dup hx hb dX13_next_244 rfl ?_
                        refine r_get (v := .int (nI (j + i))) (C := RX13) (T := TX13) (N := 18) hx hb hts in_X13 hown hK hI (mf_main) rfl 9 (by decide) (hts _ q1173) (fun _ h => h) (rdv (mx_2 y w (j + i) j 2 (numV (y.2.1 2) j i) f)) dX13_next_245 ?_
                        refine lv_iconst (v := 1) hx hb dX13_next_248 (by decide) ?_
                        refine lv_iadd hx hb dX13_next_249 ?_
                        rw [show ((nI (j + i)) + (1 : Int32)) = nI ((j + i) + 1) from na_add (rfl) (rfl)]
                        refine r_put (C := RX13) (T := TX13) (N := 18) (cf' := cfM D L (yr (mdX y (w, j + i, j, 2, numV (y.2.1 2) j i, f)) 0 2 (nI ((j + i) + 1)))) hx hb hts in_X13 tyX13 tyX13_ok nmX13 hown hK hI hS (mf_main) rfl 9 (by decide) (hts _ q1173) (fun _ h => h) rfl (ty := .int) (by decide +kernel) rfl rfl (Nat.le_of_ble_eq_true rfl) (ms_main rfl (fun _ => rfl) (fun _ h => u2_ne h)) dX13_next_250 (fun H1 locs1 hI hS => ?_)
                        rw [mx_s2] at hI
                        refine lv_goto (tgt := 185) hx hb dX13_next_253 (by decide) ?_
                        exact ih185 (i + 1) (by omega) (fun q h1 h2 => by by_cases e9 : q = j + i; exact e9 ▸ hb1; exact hi3 q h1 (by omega)) (by omega) _ _ (by first | exact hI | (rw [nu_s1 c_208]; exact hI)) hS ls (lv_sub hl [0, 1] rfl)
                exact lp185 (_ + 1) (0) (by omega) (fun q h1 h2 => by omega) (Nat.lt_succ_self _) _ _ hI hS ls (lv_sub hl [1, 0] rfl)
            · skip
              have c_95 := Int32.not_le.mp c_95
              have hlt : ltB (y.2.1 2) n j = true := bt (fun z => absurd (bm_lt.mpr z) (Int32.not_le.mpr c_95))
              refine lv_aload_n hx hb dX13_next_98 rfl (lv_at hl 1 rfl) ?_
              refine lv_iconst (v := 1) hx hb dX13_next_99 (by decide) ?_
              refine r_put (C := RX13) (T := TX13) (N := 18) (cf' := cfM D L (yr (mdX y (w, j, j, k, 0, f)) 0 3 (nI 1))) hx hb hts in_X13 tyX13 tyX13_ok nmX13 hown hK hI hS (mf_main) rfl 10 (by decide) (hts _ q1174) (fun _ h => h) rfl (ty := .int) (by decide +kernel) rfl rfl (Nat.le_of_ble_eq_true rfl) (ms_main rfl (fun _ => rfl) (fun _ h => u2_ne h)) dX13_next_100 (fun H1 locs1 hI hS => ?_)
              rw [mx_s3] at hI
              have lp103 : ∀ (fuel : Nat) (i : Nat), (j + i ≤ n) → (∀ q, j ≤ q → q < j + i → ltB (y.2.1 2) n q = true) → n - (j + i) < fuel → ∀ (H : Heap) (locs : List Loc), hw D (cfM D L (mdX y (w, j + i, j, 1, wdV (y.2.1 2) j i, f))) A H → va_S A s.heap H locs → ∀ (ls : Array Slot), lv_has ls 2 [(0, .ref (L 0)), (1, .int (bvM (y.2.1 2) n j))] → W p l e ({ frames := 1, cells := 0, slots := 0, locals := 21 } : Room) s m ([.ref (L 0)] : List Value).toArray below meth c H locs 0 0 (MQ below (nQ D (cfM D L (mdX y (nextM (y.2.1 2) n (w, a, b, k, v, f)))) A none) ([.ref (L 0)] : List Value).toArray s 0 0 A) (F0 m 103 ls []) := by
                intro fuel
                induction fuel with
                | zero => intro i hi1 hi3 hf; exact absurd hf (Nat.not_lt_zero _)
                | succ fuel ih103 =>
                  intro i hi1 hi3 hf103 H locs hI hS ls hl
                  have hnv : wdV (y.2.1 2) j i < 2700000000000000027 := wd_b (y.2.1 2) j i (fun q g1 g2 => (ltN_b hrt hrN (hi3 q g1 g2)).1)
                  refine lv_aload_n hx hb dX13_next_103 rfl (lv_at hl 0 rfl) ?_
                  refine lv_aload_n hx hb dX13_next_104 rfl (lv_at hl 0 rfl) ?_
                  refine r_get (v := .int (nI (j + i))) (C := RX13) (T := TX13) (N := 18) hx hb hts in_X13 hown hK hI (mf_main) rfl 9 (by decide) (hts _ q1173) (fun _ h => h) (rdv (mx_2 y w (j + i) j 1 (wdV (y.2.1 2) j i) f)) dX13_next_105 ?_
                  refine c_r (k_V (As := [.int (nI (j + i))]) (rest := []) F (k_X13_byteAt y n hR w (j + i) j 1 (wdV (y.2.1 2) j i) f (j + i) (by omega)) (cwV 1 hts (lw_V q1509 q1511 qs79 q107 q1512) rfl rfl rfl (by decide +kernel) ⟨Nat.le_of_ble_eq_true rfl, Nat.le_of_ble_eq_true rfl⟩) hI hK (hw.recv hI hK (mf_main) rfl) rfl hl.1 rfl (Nat.le_of_ble_eq_true rfl) dX13_next_108 ⟨Nat.le_of_ble_eq_true rfl, Nat.le_of_ble_eq_true rfl⟩) ?_
                  refine c_r (k_S (As := [.int (bvM (y.2.1 2) n (j + i))]) (rest := []) F (k_X13_letter (bvM (y.2.1 2) n (j + i))) (va_cwS 1 hts (lw_S q1513 q1514 q107 q1515) rfl rfl rfl (by decide +kernel) ⟨Nat.le_of_ble_eq_true rfl, Nat.le_of_ble_eq_true rfl⟩) rfl hl.1 rfl (Nat.le_of_ble_eq_true rfl) dX13_next_111 ⟨Nat.le_of_ble_eq_true rfl, Nat.le_of_ble_eq_true rfl⟩) ?_
                  refine lv_if_le (tgt := 261) hx hb dX13_next_114 (by decide) (fun c_114 => ?_) (fun c_114 => ?_)
                  · skip
                    have c_114 := Int32.not_lt.mpr c_114
                    have hsl : skB (ltB (y.2.1 2) n) j = j + i := sk_uq (by omega) (by omega) hi3 (bm_lt.mp (Int32.not_lt.mp c_114))
                    exact W.vret hx hb hr (fun t ht _ => ⟨rfl, by rw [ht]; exact hw_eq hI (congrArg (fun z => cfM D L (mdX y z)) (by first | (rw [ne_0 hsk c_56]; done) | (rw [ne_3 hsk (by omega) c_70]; done) | (rw [ne_1 hsk (by omega) c_70 hlt hsl]; done) | (rw [ne_2 hsk (by omega) c_70 hlt hdg hsl]; done) | (rw [ne_4 hsk (by omega) c_70 hlt hdg]))), hS.F ht⟩) hS.2.2 dX13_next_261
                  · skip
                    have c_114 := Int32.not_le.mp c_114
                    have hb1 : ltB (y.2.1 2) n (j + i) = true := bt (fun z => absurd (bm_lt.mpr z) (Int32.not_le.mpr c_114))
                    have hb2 := ltB_lt (j + i) hb1
                    refine lv_aload_n hx hb dX13_next_117 rfl (lv_at hl 0 rfl) ?_
                    refine lv_aload_n hx hb dX13_next_118 rfl (lv_at hl 0 rfl) ?_
                    refine r_get (v := .long (nL (wdV (y.2.1 2) j i))) (C := RX13) (T := TX13) (N := 18) hx hb hts in_X13 hown hK hI (mf_main) rfl 12 (by decide) (hts _ q1176) (fun _ h => h) (rfl) dX13_next_119 ?_
                    refine lv_ldc2 (v := 100000000000000000) hx hb hown (hts _ q1516) dX13_next_122 ?_
                    refine W.lcmp hx hb dX13_next_125 ?_
                    refine lv_if_le (tgt := 136) hx hb dX13_next_126 (by decide) (fun c_126 => ?_) (fun c_126 => ?_)
                    · skip
                      have c_126 := Int32.not_lt.mpr c_126
                      have c_126 : ¬ 100000000000000000 < wdV (y.2.1 2) j i := fun z => c_126 ((lg_cmp_gt _ _).mpr ((nL_lt (a := 100000000000000000) (by decide) (by omega)).mpr z))
                      refine lv_aload_n hx hb dX13_next_136 rfl (lv_at hl 0 rfl) ?_
                      refine r_get (v := .long (nL (wdV (y.2.1 2) j i))) (C := RX13) (T := TX13) (N := 18) hx hb hts in_X13 hown hK hI (mf_main) rfl 12 (by decide) (hts _ q1176) (fun _ h => h) (rfl) dX13_next_137 ?_
                      refine lv_ldc2 (v := 27) hx hb hown (hts _ q1517) dX13_next_140 ?_
                      refine lv_lmul hx hb dX13_next_143 ?_
                      refine lv_aload_n hx hb dX13_next_144 rfl (lv_at hl 0 rfl) ?_
                      refine lv_aload_n hx hb dX13_next_145 rfl (lv_at hl 0 rfl) ?_
                      refine r_get (v := .int (nI (j + i))) (C := RX13) (T := TX13) (N := 18) hx hb hts in_X13 hown hK hI (mf_main) rfl 9 (by decide) (hts _ q1173) (fun _ h => h) (rdv (mx_2 y w (j + i) j 1 (wdV (y.2.1 2) j i) f)) dX13_next_146 ?_
                      refine c_r (k_V (As := [.int (nI (j + i))]) (rest := [.long ((nL (wdV (y.2.1 2) j i)) * (27 : Int64)), .ref (L 0)]) F (k_X13_byteAt y n hR w (j + i) j 1 (wdV (y.2.1 2) j i) f (j + i) (by omega)) (cwV 1 hts (lw_V q1509 q1511 qs79 q107 q1512) rfl rfl rfl (by decide +kernel) ⟨Nat.le_of_ble_eq_true rfl, Nat.le_of_ble_eq_true rfl⟩) hI hK (hw.recv hI hK (mf_main) rfl) rfl hl.1 rfl (Nat.le_of_ble_eq_true rfl) dX13_next_149 ⟨Nat.le_of_ble_eq_true rfl, Nat.le_of_ble_eq_true rfl⟩) ?_
                      refine c_r (k_S (As := [.int (bvM (y.2.1 2) n (j + i))]) (rest := [.long ((nL (wdV (y.2.1 2) j i)) * (27 : Int64)), .ref (L 0)]) F (k_X13_letter (bvM (y.2.1 2) n (j + i))) (va_cwS 1 hts (lw_S q1513 q1514 q107 q1515) rfl rfl rfl (by decide +kernel) ⟨Nat.le_of_ble_eq_true rfl, Nat.le_of_ble_eq_true rfl⟩) rfl hl.1 rfl (Nat.le_of_ble_eq_true rfl) dX13_next_152 ⟨Nat.le_of_ble_eq_true rfl, Nat.le_of_ble_eq_true rfl⟩) ?_
                      refine lv_i2l (v := ((leI (bvM (y.2.1 2) n (j + i))) : Int32).toInt64) hx hb dX13_next_155 rfl ?_
                      refine lv_ladd hx hb dX13_next_156 ?_
                      rw [show (((nL (wdV (y.2.1 2) j i)) * (27 : Int64)) + (((leI (bvM (y.2.1 2) n (j + i))) : Int32).toInt64)) = nL (wdV (y.2.1 2) j (i + 1)) from wd_s (v' := 0) hrt hrN hb1 c_126]
                      refine r_put (C := RX13) (T := TX13) (N := 18) (cf' := cfM D L ((mdX y (w, j + i, j, 1, wdV (y.2.1 2) j i, f)).1, (mdX y (w, j + i, j, 1, wdV (y.2.1 2) j i, f)).2.1, nL (wdV (y.2.1 2) j (i + 1)))) hx hb hts in_X13 tyX13 tyX13_ok nmX13 hown hK hI hS (mf_main) rfl 12 (by decide) (hts _ q1176) (fun _ h => h) rfl (ty := .long) (by decide +kernel) rfl rfl (Nat.le_of_ble_eq_true rfl) (ms_main rfl (fun _ => rfl) (fun _ _ => rfl)) dX13_next_157 (fun H1 locs1 hI hS => ?_)
                      rw [mx_sv] at hI
                      refine lv_aload_n hx hb dX13_next_160 rfl (lv_at hl 0 rfl) ?_
                      refine lv_dup hx hb dX13_next_161 rfl ?_
                      refine r_get (v := .int (nI (j + i))) (C := RX13) (T := TX13) (N := 18) hx hb hts in_X13 hown hK hI (mf_main) rfl 9 (by decide) (hts _ q1173) (fun _ h => h) (rdv (mx_2 y w (j + i) j 1 (wdV (y.2.1 2) j (i + 1)) f)) dX13_next_162 ?_
                      refine lv_iconst (v := 1) hx hb dX13_next_165 (by decide) ?_
                      refine lv_iadd hx hb dX13_next_166 ?_
                      rw [show ((nI (j + i)) + (1 : Int32)) = nI ((j + i) + 1) from na_add (rfl) (rfl)]
                      refine r_put (C := RX13) (T := TX13) (N := 18) (cf' := cfM D L (yr (mdX y (w, j + i, j, 1, wdV (y.2.1 2) j (i + 1), f)) 0 2 (nI ((j + i) + 1)))) hx hb hts in_X13 tyX13 tyX13_ok nmX13 hown hK hI hS (mf_main) rfl 9 (by decide) (hts _ q1173) (fun _ h => h) rfl (ty := .int) (by decide +kernel) rfl rfl (Nat.le_of_ble_eq_true rfl) (ms_main rfl (fun _ => rfl) (fun _ h => u2_ne h)) dX13_next_167 (fun H1 locs1 hI hS => ?_)
                      rw [mx_s2] at hI
                      refine lv_goto (tgt := 103) hx hb dX13_next_170 (by decide) ?_
                      exact ih103 (i + 1) (by omega) (fun q h1 h2 => by by_cases e9 : q = j + i; exact e9 ▸ hb1; exact hi3 q h1 (by omega)) (by omega) _ _ (by first | exact hI | (rw [wd_k c_126]; exact hI)) hS ls (lv_sub hl [0, 1] rfl)
                    · skip
                      have c_126 := Int32.not_le.mp c_126
                      have c_126 : 100000000000000000 < wdV (y.2.1 2) j i := (nL_lt (a := 100000000000000000) (by decide) (by omega)).mp ((lg_cmp_gt _ _).mp c_126)
                      refine lv_aload_n hx hb dX13_next_129 rfl (lv_at hl 0 rfl) ?_
                      refine r_get (v := .long (nL (wdV (y.2.1 2) j i))) (C := RX13) (T := TX13) (N := 18) hx hb hts in_X13 hown hK hI (mf_main) rfl 12 (by decide) (hts _ q1176) (fun _ h => h) (rfl) dX13_next_130 ?_
                      refine lv_goto (tgt := 157) hx hb dX13_next_133 (by decide) ?_
                      refine r_put (C := RX13) (T := TX13) (N := 18) (cf' := cfM D L ((mdX y (w, j + i, j, 1, wdV (y.2.1 2) j i, f)).1, (mdX y (w, j + i, j, 1, wdV (y.2.1 2) j i, f)).2.1, nL (wdV (y.2.1 2) j i))) hx hb hts in_X13 tyX13 tyX13_ok nmX13 hown hK hI hS (mf_main) rfl 12 (by decide) (hts _ q1176) (fun _ h => h) rfl (ty := .long) (by decide +kernel) rfl rfl (Nat.le_of_ble_eq_true rfl) (ms_main rfl (fun _ => rfl) (fun _ _ => rfl)) dX13_next_157 (fun H1 locs1 hI hS => ?_)
                      rw [mx_sv] at hI
                      refine lv_aload_n hx hb dX13_next_160 rfl (lv_at hl 0 rfl) ?_
                      refine lv_dup hx hb dX13_next_161 rfl ?_
                      refine r_get (v := .int (nI (j + i))) (C := RX13) (T := TX13) (N := 18) hx hb hts in_X13 hown hK hI (mf_main) rfl 9 (by decide) (hts _ q1173) (fun _ h => h) (rdv (mx_2 y w (j + i) j 1 (wdV (y.2.1 2) j i) f)) dX13_next_162 ?_
                      refine lv_iconst (v := 1) hx hb dX13_next_165 (by decide) ?_
                      refine lv_iadd hx hb dX13_next_166 ?_
                      rw [show ((nI (j + i)) + (1 : Int32)) = nI ((j + i) + 1) from na_add (rfl) (rfl)]
                      refine r_put (C := RX13) (T := TX13) (N := 18) (cf' := cfM D L (yr (mdX y (w, j + i, j, 1, wdV (y.2.1 2) j i, f)) 0 2 (nI ((j + i) + 1)))) hx hb hts in_X13 tyX13 tyX13_ok nmX13 hown hK hI hS (mf_main) rfl 9 (by decide) (hts _ q1173) (fun _ h => h) rfl (ty := .int) (by decide +kernel) rfl rfl (Nat.le_of_ble_eq_true rfl) (ms_main rfl (fun _ => rfl) (fun _ h => u2_ne h)) dX13_next_167 (fun H1 locs1 hI hS => ?_)
                      rw [mx_s2] at hI
                      refine lv_goto (tgt := 103) hx hb dX13_next_170 (by decide) ?_
                      exact ih103 (i + 1) (by omega) (fun q h1 h2 => by by_cases e9 : q = j + i; exact e9 ▸ hb1; exact hi3 q h1 (by omega)) (by omega) _ _ (by first | exact hI | (rw [wd_k c_126]; exact hI)) hS ls (lv_sub hl [0, 1] rfl)
              exact lp103 (_ + 1) (0) (by omega) (fun q h1 h2 => by omega) (Nat.lt_succ_self _) _ _ hI hS ls (lv_sub hl [1, 0] rfl)
          · skip
            have c_70 : y.2.1 2 j = 59 := (bm_59 (by omega)).mp c_70
            refine lv_aload_n hx hb dX13_next_73 rfl (lv_at hl 1 rfl) ?_
            refine lv_iconst (v := 3) hx hb dX13_next_74 (by decide) ?_
            refine r_put (C := RX13) (T := TX13) (N := 18) (cf' := cfM D L (yr (mdX y (w, j, j, k, 0, f)) 0 3 (nI 3))) hx hb hts in_X13 tyX13 tyX13_ok nmX13 hown hK hI hS (mf_main) rfl 10 (by decide) (hts _ q1174) (fun _ h => h) rfl (ty := .int) (by decide +kernel) rfl rfl (Nat.le_of_ble_eq_true rfl) (ms_main rfl (fun _ => rfl) (fun _ h => u2_ne h)) dX13_next_75 (fun H1 locs1 hI hS => ?_)
            rw [mx_s3] at hI
            refine lv_aload_n hx hb dX13_next_78 rfl (lv_at hl 1 rfl) ?_
            refine lv_dup hx hb dX13_next_79 rfl ?_
            refine r_get (v := .int (nI j)) (C := RX13) (T := TX13) (N := 18) hx hb hts in_X13 hown hK hI (mf_main) rfl 9 (by decide) (hts _ q1173) (fun _ h => h) (rdv (mx_2 y w j j 3 0 f)) dX13_next_80 ?_
            refine lv_iconst (v := 1) hx hb dX13_next_83 (by decide) ?_
            refine lv_iadd hx hb dX13_next_84 ?_
            rw [show ((nI j) + (1 : Int32)) = nI (j + 1) from na_add (rfl) (rfl)]
            refine r_put (C := RX13) (T := TX13) (N := 18) (cf' := cfM D L (yr (mdX y (w, j, j, 3, 0, f)) 0 2 (nI (j + 1)))) hx hb hts in_X13 tyX13 tyX13_ok nmX13 hown hK hI hS (mf_main) rfl 9 (by decide) (hts _ q1173) (fun _ h => h) rfl (ty := .int) (by decide +kernel) rfl rfl (Nat.le_of_ble_eq_true rfl) (ms_main rfl (fun _ => rfl) (fun _ h => u2_ne h)) dX13_next_85 (fun H1 locs1 hI hS => ?_)
            rw [mx_s2] at hI
            refine lv_goto (tgt := 261) hx hb dX13_next_88 (by decide) ?_
            exact W.vret hx hb hr (fun t ht _ => ⟨rfl, by rw [ht]; exact hw_eq hI (congrArg (fun z => cfM D L (mdX y z)) (by first | (rw [ne_0 hsk c_56]; done) | (rw [ne_3 hsk (by omega) c_70]; done) | (rw [ne_1 hsk (by omega) c_70 hlt hsl]; done) | (rw [ne_2 hsk (by omega) c_70 hlt hdg hsl]; done) | (rw [ne_4 hsk (by omega) c_70 hlt hdg]))), hS.F ht⟩) hS.2.2 dX13_next_261
        · skip
          have c_56 : j = n := (neq (a := j) (b := n) (rfl) (rfl) (by omega) (by omega)).mp c_56
          refine lv_aload_n hx hb dX13_next_59 rfl (lv_at hl 1 rfl) ?_
          refine lv_iconst (v := 0) hx hb dX13_next_60 (by decide) ?_
          refine r_put (C := RX13) (T := TX13) (N := 18) (cf' := cfM D L (yr (mdX y (w, j, j, k, 0, f)) 0 3 (nI 0))) hx hb hts in_X13 tyX13 tyX13_ok nmX13 hown hK hI hS (mf_main) rfl 10 (by decide) (hts _ q1174) (fun _ h => h) rfl (ty := .int) (by decide +kernel) rfl rfl (Nat.le_of_ble_eq_true rfl) (ms_main rfl (fun _ => rfl) (fun _ h => u2_ne h)) dX13_next_61 (fun H1 locs1 hI hS => ?_)
          rw [mx_s3] at hI
          refine lv_goto (tgt := 261) hx hb dX13_next_64 (by decide) ?_
          exact W.vret hx hb hr (fun t ht _ => ⟨rfl, by rw [ht]; exact hw_eq hI (congrArg (fun z => cfM D L (mdX y z)) (by first | (rw [ne_0 hsk c_56]; done) | (rw [ne_3 hsk (by omega) c_70]; done) | (rw [ne_1 hsk (by omega) c_70 hlt hsl]; done) | (rw [ne_2 hsk (by omega) c_70 hlt hdg hsl]; done) | (rw [ne_4 hsk (by omega) c_70 hlt hdg]))), hS.F ht⟩) hS.2.2 dX13_next_261
      · skip
        have hb1 : spB (y.2.1 2) n j = true := bm_sp.mp c_10
        have hb2 := spB_lt j hb1
        refine lv_aload_n hx hb dX13_next_13 rfl (lv_at hl 0 rfl) ?_
        refine lv_dup hx hb dX13_next_14 rfl ?_
        refine r_get (v := .int (nI j)) (C := RX13) (T := TX13) (N := 18) hx hb hts in_X13 hown hK hI (mf_main) rfl 9 (by decide) (hts _ q1173) (fun _ h => h) (rdv (mx_2 y w j b k v f)) dX13_next_15 ?_
        refine lv_iconst (v := 1) hx hb dX13_next_18 (by decide) ?_
        refine lv_iadd hx hb dX13_next_19 ?_
        rw [show ((nI j) + (1 : Int32)) = nI (j + 1) from na_add (rfl) (rfl)]
        refine r_put (C := RX13) (T := TX13) (N := 18) (cf' := cfM D L (yr (mdX y (w, j, b, k, v, f)) 0 2 (nI (j + 1)))) hx hb hts in_X13 tyX13 tyX13_ok nmX13 hown hK hI hS (mf_main) rfl 9 (by decide) (hts _ q1173) (fun _ h => h) rfl (ty := .int) (by decide +kernel) rfl rfl (Nat.le_of_ble_eq_true rfl) (ms_main rfl (fun _ => rfl) (fun _ h => u2_ne h)) dX13_next_20 (fun H1 locs1 hI hS => ?_)
        rw [mx_s2] at hI
        refine lv_goto (tgt := 0) hx hb dX13_next_23 (by decide) ?_
        exact ih0 (j + 1) (by omega) (by omega) (fun i h1 h2 => by by_cases e9 : i = j; exact e9 ▸ hb1; exact hj3 i h1 (by omega)) (by omega) _ _ hI hS ls (lv_sub hl [0] rfl)
  exact lp0 (_ + 1) (a) (Nat.le_refl _) (ha0) (fun i h1 h2 => by omega) (Nat.lt_succ_self _) _ _ hI hS ls (lv_sub hl [0] rfl)
