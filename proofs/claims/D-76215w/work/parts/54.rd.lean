/-! the reader: walks -/
def rOk (x : cst) (n : Nat) : Prop := x.2.1 1 0 = nI n ∧ n ≤ 120 ∧ tpOk (x.2.1 2)
section PQ
variable {D : va_G} {L : Nat → Nat} {x x' : cst} {A : Nat → Prop} {r : Nat ⊕ (cst × Option Value)} {a : Array Value} {st t : State}
theorem pq_thr {b : Nat} (h : r = .inl b) (hj : jk x x') (hb : x'.2.1 1 2 = nI b) (hI : hw D (cfC D L x') A t.heap) (hF : va_F A st t) : pQ D L x A r a st (.threw (L 47)) t := by
  subst h; exact ⟨⟨rfl, x', hj, hb, hI⟩, hF⟩
theorem pq_ret {o ov : Option Value} (h : r = .inr (x', ov)) (ho : o = ov) (hI : hw D (cfC D L x') A t.heap) (hF : va_F A st t) : pQ D L x A r a st (.returned o) t := by
  subst h ho; exact ⟨⟨rfl, hI⟩, hF⟩
end PQ
theorem nI_suba {a b : Nat} (h : b ≤ a) : nI a - nI b = nI (a - b) := by
  have e : nI a = nI (a - b) + nI b := by rw [nI_add]; congr 1; omega
  rw [e]; exact Int32.add_sub_cancel _ _
theorem ky_0 (tp : Nat → Int32) (a k : Nat) {c0 : Int32} {i : Nat} (h : itr (kyS tp a k) c0 i = 0) : ∀ m, itr (kyS tp a k) c0 (i + m) = 0 := by
  intro m
  induction m with
  | zero => exact h
  | succ m ih => rw [← Nat.add_assoc, itr_s, ih]; rfl
theorem ky_end {tp : Nat → Int32} {a k len : Nat} {c0 : Int32} {i : Nat} (h : itr (kyS tp a k) c0 i = 0) (hi : i ≤ len) : itr (kyS tp a k) c0 len = itr (kyS tp a k) c0 i := by
  have := ky_0 tp a k h (len - i)
  rw [show i + (len - i) = len by omega] at this
  rw [this, h]
theorem ky0_8 {len k : Nat} (h : 7 < len) : ky0 len k = 0 := by unfold ky0; rw [if_neg (by omega)]
theorem ky_7 {tp : Nat → Int32} {a k len i : Nat} (h : ¬ itr (kyS tp a k) (ky0 len k) i = 0) : len ≤ 7 := by
  refine Nat.le_of_not_lt (fun z => h ?_)
  rw [ky0_8 z]
  have := ky_0 tp a k (c0 := 0) (i := 0) rfl i
  rwa [Nat.zero_add] at this
theorem ky0_7 {k : Nat} : ky0 7 k = 1 := rfl
theorem ky0_1 {len k : Nat} (h : len < 7) (h2 : keyC (7 * k + len) = 32) : ky0 len k = 1 := by unfold ky0; rw [if_pos (by omega), if_neg (by omega), if_pos h2]
theorem ky0_0 {len k : Nat} (h : len < 7) (h2 : ¬ keyC (7 * k + len) = 32) : ky0 len k = 0 := by unfold ky0; rw [if_pos (by omega), if_neg (by omega), if_neg h2]
theorem ky_01 (tp : Nat → Int32) (a k len : Nat) : ∀ i, itr (kyS tp a k) (ky0 len k) i = 0 ∨ itr (kyS tp a k) (ky0 len k) i = 1 := by
  intro i
  induction i with
  | zero =>
    show ky0 len k = 0 ∨ ky0 len k = 1
    unfold ky0
    by_cases h1 : len ≤ 7
    · rw [if_pos h1]; by_cases h2 : len = 7
      · rw [if_pos h2]; exact Or.inr rfl
      · rw [if_neg h2]; by_cases h3 : keyC (7 * k + len) = 32
        · rw [if_pos h3]; exact Or.inr rfl
        · rw [if_neg h3]; exact Or.inl rfl
    · rw [if_neg h1]; exact Or.inl rfl
  | succ i ih =>
    rw [itr_s]
    generalize itr (kyS tp a k) (ky0 len k) i = z
    unfold kyS
    by_cases h1 : z = 0
    · rw [if_pos h1]; exact Or.inl rfl
    · rw [if_neg h1]; by_cases h2 : keyC (7 * k + i) = tp (a + i)
      · rw [if_pos h2]; exact Or.inr rfl
      · rw [if_neg h2]; exact Or.inl rfl
theorem ky_r {tp : Nat → Int32} {a k len i : Nat} (h : ¬ itr (kyS tp a k) (ky0 len k) i = 0 ∨ i = len) : True := trivial
theorem ky_bl {tp : Nat → Int32} {a k len i : Nat} : narrow .boolean (.int (itr (kyS tp a k) (ky0 len k) i)) = .int (itr (kyS tp a k) (ky0 len k) i) := by
  rcases ky_01 tp a k len i with h | h <;> rw [h] <;> rfl
theorem ky_s1 {tp : Nat → Int32} {a k i : Nat} {c : Int32} (hc : ¬ c = 0) (h : keyC (7 * k + i) = tp (a + i)) : kyS tp a k i c = 1 := by unfold kyS; rw [if_neg hc, if_pos h]
theorem ky_s0 {tp : Nat → Int32} {a k i : Nat} {c : Int32} (hc : ¬ c = 0) (h : ¬ keyC (7 * k + i) = tp (a + i)) : kyS tp a k i c = 0 := by unfold kyS; rw [if_neg hc, if_neg h]
theorem ky_at {tp : Nat → Int32} {a len i : Nat} (hi : i < 13) (h1 : ∀ k, k < i → kyI tp a len k = 0) (h2 : ¬ kyI tp a len i = 0) : keyI tp a len = i :=
  fstB_uq 13 0 (Nat.zero_le _) (by omega) (fun j _ h => by simp [h1 j h]) (by simp [h2])
theorem ky_no {tp : Nat → Int32} {a len : Nat} (h1 : ∀ k, k < 13 → kyI tp a len k = 0) : keyI tp a len = 13 := by
  have h : ∀ m a', a' + m = 13 → fstB (fun k => decide (¬ kyI tp a len k = 0)) m a' = 13 := by
    intro m
    induction m with
    | zero => intro a' h; exact h
    | succ m ih => intro a' h; rw [fstB_go (by simp [h1 a' (by omega)]) (by omega)]; exact ih (a' + 1) (by omega)
  exact h 13 0 rfl
theorem nu_at {tp : Nat → Int32} {a n i : Nat} {hN : n ≤ 120} (ht : tpOk tp) (hd : ∀ j, a ≤ j → j < a + i → dgB tp n j = true) : numV tp a i < 1000010 :=
  nu_b tp a i (fun j h1 h2 => (by_dv (n := n) ht hN (hd j h1 h2)).2)
theorem nu_s1 {tp : Nat → Int32} {a i : Nat} (h : ¬ numV tp a i ≤ 99999) : numV tp a (i + 1) = numV tp a i := by
  unfold numV at h ⊢; rw [itr_s, nuS, if_pos (by omega)]
theorem nu_s0 {tp : Nat → Int32} {a i : Nat} (h : numV tp a i ≤ 99999) : numV tp a (i + 1) = 10 * numV tp a i + dgN tp (a + i) := by
  unfold numV at h ⊢; rw [itr_s, nuS, if_neg (by omega)]
theorem nu_v {tp : Nat → Int32} {n i d : Nat} (hN : n ≤ 120) (ht : tpOk tp) (h : dgB tp n i = true) : 10 * nI d + byC tp n i - 48 = nI (10 * d + dgN tp i) := by
  rw [← nI_add, ← (by_dv ht hN h).1, show nI (10 * d) = 10 * nI d from (na_mul rfl rfl).symm, Int32.sub_eq_add_neg, Int32.sub_eq_add_neg, Int32.add_assoc]
section NX
variable {tp : Nat → Int32} {n a b k v j i h : Nat} {w : wd}
theorem wo_no (hs : skB (ltB tp n) a = j) (h : ∀ q, q < 13 → kyI tp a (j - a) q = 0) : wordP tp n (w, a, a, k, v) = .inl a := by
  show (if keyI tp a (skB (ltB tp n) a - a) < 13 then _ else _) = _
  rw [hs, ky_no h]; rfl
theorem wo_at (hs : skB (ltB tp n) a = j) (hi : i < 13) (h1 : ∀ q, q < i → kyI tp a (j - a) q = 0) (h2 : ¬ kyI tp a (j - a) i = 0) : wordP tp n (w, a, a, k, v) = .inr (w, j, a, 2, i) := by
  show (if keyI tp a (skB (ltB tp n) a - a) < 13 then (.inr (w, skB (ltB tp n) a, a, 2, keyI tp a (skB (ltB tp n) a - a)) : Nat ⊕ ps) else _) = _
  rw [hs, ky_at hi h1 h2, if_pos hi]
theorem di_ok (hs : skB (dgB tp n) a = a + i) (h : numV tp a i ≤ 99999) : digP tp n (w, a, b, k, v) = .inr (w, a + i, b, 1, numV tp a i) := by
  show (if numV tp a (skB (dgB tp n) a - a) ≤ 99999 then (.inr (w, skB (dgB tp n) a, b, 1, numV tp a (skB (dgB tp n) a - a)) : Nat ⊕ ps) else _) = _
  rw [hs, Nat.add_sub_cancel_left, if_pos h]
theorem di_no (hs : skB (dgB tp n) a = a + i) (h : ¬ numV tp a i ≤ 99999) : digP tp n (w, a, b, k, v) = .inl b := by
  show (if numV tp a (skB (dgB tp n) a - a) ≤ 99999 then (.inr (w, skB (dgB tp n) a, b, 1, numV tp a (skB (dgB tp n) a - a)) : Nat ⊕ ps) else _) = _
  rw [hs, Nat.add_sub_cancel_left, if_neg h]
theorem nx_0 (hs : skB (spB tp n) a = j) (h : n ≤ j) : nextP tp n (w, a, b, k, v) = .inr (w, j, j, 0, v) := by rw [nx_e hs, nxtB, if_pos h]
theorem nx_w (hs : skB (spB tp n) a = j) (h : ¬ n ≤ j) (h1 : ltB tp n j = true) : nextP tp n (w, a, b, k, v) = wordP tp n (w, j, j, k, v) := by rw [nx_e hs, nxtB, if_neg h, if_pos h1]
theorem nx_d (hs : skB (spB tp n) a = j) (h : ¬ n ≤ j) (h1 : ltB tp n j = false) (h2 : dgB tp n j = true) : nextP tp n (w, a, b, k, v) = digP tp n (w, j, j, k, v) := by rw [nx_e hs, nxtB, if_neg h, if_neg (by rw [h1]; decide), if_pos h2]
theorem nx_s (hs : skB (spB tp n) a = j) (h : ¬ n ≤ j) (h1 : ltB tp n j = false) (h2 : dgB tp n j = false) (h3 : tp j = 59) : nextP tp n (w, a, b, k, v) = .inr (w, j + 1, j, 3, v) := by rw [nx_e hs, nxtB, if_neg h, if_neg (by rw [h1]; decide), if_neg (by rw [h2]; decide), if_pos h3]
theorem nx_x (hs : skB (spB tp n) a = j) (h : ¬ n ≤ j) (h1 : ltB tp n j = false) (h2 : dgB tp n j = false) (h3 : ¬ tp j = 59) : nextP tp n (w, a, b, k, v) = .inl j := by rw [nx_e hs, nxtB, if_neg h, if_neg (by rw [h1]; decide), if_neg (by rw [h2]; decide), if_neg h3]
theorem nu_y (hk : k = 1) (hv : v < h) : numP tp n h (w, a, b, k, v) = (match nextP tp n (w, a, b, k, v) with | .inl b => .inl b | .inr q => .inr (v, q)) := if_pos ⟨hk, hv⟩
theorem nu_n (hk : ¬ (k = 1 ∧ v < h)) : numP tp n h (w, a, b, k, v) = .inl b := if_neg hk
theorem bt {P : Bool} (h : ¬ P = false) : P = true := by cases P with | true => rfl | false => exact absurd rfl h
theorem sp_no (ht : tpOk tp) (hN : n ≤ 120) (h : ¬ byC tp n j = 32) : spB tp n j = false := by
  cases hc : spB tp n j with | false => rfl | true => exact absurd ((by_sp ht hN).mpr hc) h
end NX
section WK
variable {f : wd}
theorem isN_nI {a b : Nat} (h : a < b) : isN (nI a) b := ⟨a, h, rfl⟩
theorem wN_u {r c : Nat} {v : Int32} (h : r ≠ 1) : wN (u2 f r c v) = wN f := by unfold wN; rw [u2_ne (fun z => h z.symm)]
theorem wOk_clr (h : wOk f) (n : Nat) : ∀ i, i ≤ 7 → wOk (itr (clrS n) f i) := by
  intro i
  induction i with
  | zero => intro _; exact h
  | succ i ih =>
    intro hi
    rw [itr_s]
    refine wOk_u (ih (by omega)) ⟨0, ?_, rfl⟩ (by omega)
    have h2 : i = 0 ∨ i = 1 ∨ i = 2 ∨ i = 3 ∨ i = 4 ∨ i = 5 ∨ i = 6 := by omega
    rcases h2 with rfl | rfl | rfl | rfl | rfl | rfl | rfl <;> decide
theorem wOk_add (h : wOk f) {kind room : Int32} (h1 : isN kind 7) (h2 : isN room 6) (h7 : wN f < 8) : wOk (addw f kind room) := by
  have h0 : wOk (u2 (u2 (u2 (itr (clrS (wN f)) f 7) (2 + 0) (wN f) kind) (2 + 1) (wN f) room) (2 + 2) (wN f) 5) :=
    wOk_u (wOk_u (wOk_u (wOk_clr h _ 7 (by decide)) h1 (by decide)) h2 (by decide)) ⟨5, by decide, rfl⟩ (by decide)
  unfold addw
  refine ⟨?_, fun k hk => ?_, fun i hi => ?_, ?_, fun k hk => ?_⟩
  · rw [u2_at, if_pos ⟨rfl, rfl⟩]; exact ⟨_, by omega, rfl⟩
  · have := h0.2.1 k hk
    unfold gOk at this ⊢
    simpa [u2_ne] using this
  · rw [u2_ne (by decide)]; exact h0.2.2.1 i hi
  · rw [u2_at, if_neg (by decide)]; exact h0.2.2.2.1
  · rw [u2_ne (by decide)]; exact h0.2.2.2.2 k hk
theorem wN_add {kind room : Int32} (h7 : wN f < 8) : wN (addw f kind room) = wN f + 1 := by
  show ((u2 _ 1 0 (nI (wN f + 1))) 1 0).toNatClampNeg = _
  rw [u2_at, if_pos ⟨rfl, rfl⟩, nI_clamp (by omega)]
end WK
section PO
variable {tp : Nat → Int32} {n a b k v h key r : Nat} {w : wd} {s s' : ps}
theorem pe_y (hk : k = 2 ∧ v = key) : perP tp n key r h (w, a, b, k, v) = (match behP tp n h (w, a, b, k, v) with | .inl b => .inl b | .inr q => .inr (u2 q.2.1 (2 + r) (wN w - 1) (nI q.1), q.2.2)) := if_pos hk
theorem pe_n (hk : ¬ (k = 2 ∧ v = key)) : perP tp n key r h (w, a, b, k, v) = .inr (w, a, b, k, v) := if_neg hk
def perOk (r h : Nat) : Prop := (r = 2 ∧ h = 10) ∨ (r = 3 ∧ h = 65536) ∨ (r = 4 ∧ h = 10000)
theorem per_w (hw : wOk w) (hp : perOk r h) {j z : Nat} (hz : z < h) : wOk (u2 w (2 + r) j (nI z)) := by
  rcases hp with ⟨rfl, rfl⟩ | ⟨rfl, rfl⟩ | ⟨rfl, rfl⟩
  · exact wOk_u (r := 4) hw ⟨z, hz, rfl⟩ (by decide)
  · exact wOk_u (r := 5) hw ⟨z, hz, rfl⟩ (by decide)
  · exact wOk_u (r := 6) hw ⟨z, hz, rfl⟩ (by decide)
theorem per_ok (hn : n ≤ 120) (hs : psOk n s) (hp : perOk r h) (e : perP tp n key r h s = .inr s') : psOk n s' ∧ wN s'.1 = wN s.1 ∧ s.2.1 ≤ s'.2.1 := by
  unfold perP at e
  split at e
  · split at e
    · cases e
    · rename_i q hq
      cases e
      obtain ⟨g1, g2, g3, g4⟩ := beh_ok hn hs hq
      refine ⟨⟨per_w g1.1 hp g3, g1.2⟩, ?_, g4⟩
      show wN (u2 q.2.1 (2 + r) _ _) = _
      rw [wN_u (by omega), g2]
  · cases e
    exact ⟨hs, rfl, Nat.le_refl _⟩
theorem gl1_ok {q : Nat × ps} (hn : n ≤ 120) (hs : psOk n s) (e : gl1P tp n s = .inr q) : psOk n q.2 ∧ q.2.1 = s.1 ∧ q.1 < 6 ∧ s.2.1 ≤ q.2.2.1 := by
  unfold gl1P at e
  split at e
  · exact beh_ok hn hs e
  · cases e; exact ⟨hs, rfl, by show 0 < 6; decide, Nat.le_refl _⟩
theorem glo_ok {kind : Nat} (hn : n ≤ 120) (hs : psOk n s) (hk : kind < 7) (e : gloP tp n kind s = .inr s') : psOk n s' ∧ s.2.1 ≤ s'.2.1 := by
  unfold gloP at e
  split at e
  · rename_i h8
    split at e
    · cases e
    · rename_i s1 hq1
      obtain ⟨g1, g2, -, g4, -⟩ := next_ok hn hs.w hq1
      split at e
      · cases e
      · rename_i q hq2
        obtain ⟨k1, k2, k3, k4⟩ := gl1_ok hn g1 hq2
        have hw8 : wN q.2.1 < 8 := by rw [k2, g2]; exact h8
        have o3 : psOk n (addw q.2.1 (nI kind) (nI q.1), q.2.2) := ⟨wOk_add k1.1 ⟨_, hk, rfl⟩ ⟨_, k3, rfl⟩ hw8, k1.2⟩
        split at e
        · cases e
        · rename_i s3 hq3
          obtain ⟨m1, m2, m3⟩ := per_ok hn o3 (Or.inl ⟨rfl, rfl⟩) hq3
          split at e
          · cases e
          · rename_i s4 hq4
            obtain ⟨n1, n2, n3⟩ := per_ok hn m1 (Or.inr (Or.inl ⟨rfl, rfl⟩)) hq4
            obtain ⟨p1, p2, p3⟩ := per_ok hn n1 (Or.inr (Or.inr ⟨rfl, rfl⟩)) e
            refine ⟨p1, ?_⟩
            have m3 : q.2.2.1 ≤ s3.2.1 := m3
            omega
  · cases e
theorem sai_ok (hn : n ≤ 120) (hs : psOk n s) (e : saiP tp n s = .inr s') : psOk n s' ∧ s.2.1 ≤ s'.2.1 := by
  unfold saiP at e
  split at e
  · cases e
  · rename_i q1 h1
    obtain ⟨a1, a2, a3, a4⟩ := beh_ok hn hs h1
    split at e
    · cases e
    · rename_i q2 h2
      obtain ⟨b1, b2, b3, b4⟩ := num_ok hn a1 h2
      split at e
      · cases e
      · rename_i q3 h3
        obtain ⟨c1, c2, c3, c4⟩ := num_ok hn b1 h3
        split at e
        · cases e
        · rename_i q4 h4
          obtain ⟨d1, d2, d3, d4⟩ := num_ok hn c1 h4
          cases e
          exact ⟨⟨wOk_l d1.1 (sOk_sy ⟨_, b3, rfl⟩ ⟨_, c3, rfl⟩ ⟨_, d3, rfl⟩), d1.2⟩, by show _ ≤ q4.2.2.1; omega⟩
theorem han_ok (hn : n ≤ 120) (hs : psOk n s) (e : hanP tp n s = .inr s') : psOk n s' ∧ s.2.1 ≤ s'.2.1 := by
  unfold hanP at e
  split at e
  · cases e
  · rename_i q1 h1
    obtain ⟨a1, a2, a3, a4⟩ := beh_ok hn hs h1
    split at e
    · cases e
    · rename_i q2 h2
      obtain ⟨b1, b2, b3, b4⟩ := num_ok hn a1 h2
      cases e
      exact ⟨⟨wOk_u (r := 7) b1.1 ⟨_, b3, rfl⟩ (by decide), b1.2⟩, by show _ ≤ q2.2.2.1; omega⟩
theorem ite_ok (hn : n ≤ 120) (hs : psOk n s) (e : iteP tp n s = .inr s') : psOk n s' ∧ s.2.1 ≤ s'.2.1 := by
  unfold iteP at e
  split at e
  · rename_i hk
    split at e
    · exact sai_ok hn hs e
    · rename_i h7
      split at e
      · exact han_ok hn hs e
      · rename_i h8
        exact glo_ok hn hs (by omega) e
  · cases e
end PO
theorem k_X2_byteAt {l : Launch} {D : va_G} {L : Nat → Nat} {A : Nat → Prop} (x : cst) (n : Nat) (hR : rOk x n) (w : wd) (a b k v : Nat) (j : Nat) (hj : j < 1000) : Met l yX2_byteAt (ws_ yX2_byteAt cX2_byteAt 2 (some .int)) ({ frames := 0, cells := 0, slots := 0, locals := 0 } : Room) (va_Pc [.ref (L 46), .int (nI j)] (pI D (cfC D L (rdX x (w, a, b, k, v))) A)) (rQ (.int (byC (x.2.1 2) n j))) 0 0 nof := by
  refine met_I (by decide) rfl (Nat.le_of_ble_eq_true rfl) ?_
  intro p e s m below meth c ls hx hb hr hml hown hts hlocks hl hI hK
  have F : CallFix p m c cX2_byteAt 2 s _ lw_all RX2 := ⟨hx, hb, hml, hown, hts⟩
  have hl : lv_has ls 2 [(0, .ref (L 46)), (1, .int (nI j))] := hl
  obtain ⟨hrn, hrN, hrt⟩ := id hR
  refine lv_iload_n hx hb dX2_byteAt_0 rfl (lv_at hl 1 rfl) ?_
  refine lv_aload_n hx hb dX2_byteAt_1 rfl (lv_at hl 0 rfl) ?_
  refine r_get (v := .int (nI n)) (C := RX2) (T := TX2) (N := 8) hx hb hts in_X2 hown hK hI (cf_reader) rfl 3 (by decide) (hts _ q263) (fun _ h => h) (rdv ((rd_0 x w a b k v).trans hrn)) dX2_byteAt_2 ?_
  refine lv_icmp_ge (tgt := 21) hx hb dX2_byteAt_5 (by decide) (fun c_5 => ?_) (fun c_5 => ?_)
  · skip
    have c_5 : n ≤ j := (nle (a := n) (b := j) (rfl) (rfl) (by omega) (by omega)).mp c_5
    refine lv_iconst (v := (-1)) hx hb dX2_byteAt_21 (by decide) ?_
    exact W.iret hx hb hr (fun t ht _ => ⟨rI (by unfold byC; first | rw [if_pos (by omega)] | rw [if_neg (by omega)]), ht⟩) (fun q h => by cases h) dX2_byteAt_22
  · skip
    have c_5 : ¬ n ≤ j := fun z => c_5 ((nle (a := n) (b := j) (rfl) (rfl) (by omega) (by omega)).mpr z)
    refine lv_aload_n hx hb dX2_byteAt_8 rfl (lv_at hl 0 rfl) ?_
    refine r_get (C := RX2) (T := TX2) (N := 8) hx hb hts in_X2 hown hK hI (cf_reader) rfl 1 (by decide) (hts _ q259) (fun _ h => h) rfl dX2_byteAt_9 ?_
    refine lv_iload_n hx hb dX2_byteAt_12 rfl (lv_at hl 1 rfl) ?_
    refine n_bald (k := j) hx hb hK hI (cf_tape) (rfl) (by omega) (by decide) dX2_byteAt_13 ?_
    rw [rd_r x w a b k v (by decide)]
    refine lv_sipush (v := 255) hx hb dX2_byteAt_14 (by decide) ?_
    refine lv_iand hx hb dX2_byteAt_17 ?_
    refine lv_goto (tgt := 22) hx hb dX2_byteAt_18 (by decide) ?_
    exact W.iret hx hb hr (fun t ht _ => ⟨rI (by unfold byC; first | rw [if_pos (by omega)] | rw [if_neg (by omega)]), ht⟩) (fun q h => by cases h) dX2_byteAt_22
theorem k_X2_isDigit {l : Launch} {D : va_G} {L : Nat → Nat} {A : Nat → Prop} (x : cst) (ch : Int32) : Met l yX2_isDigit (ws_ yX2_isDigit cX2_isDigit 1 (some .boolean)) ({ frames := 1, cells := 0, slots := 0, locals := 22 } : Room) (va_Pc [.int ch] (pI D (cfC D L x) A)) (rQ (.int (inI ch 48 57))) 0 0 nof := by
  refine met_I (by decide) rfl (Nat.le_of_ble_eq_true rfl) ?_
  intro p e s m below meth c ls hx hb hr hml hown hts hlocks hl hI hK
  have F : CallFix p m c cX2_isDigit 1 s _ lw_all RX2 := ⟨hx, hb, hml, hown, hts⟩
  have hl : lv_has ls 1 [(0, .int ch)] := hl
  refine lv_iload_n hx hb dX2_isDigit_0 rfl (lv_at hl 0 rfl) ?_
  refine lv_bipush (v := 48) hx hb dX2_isDigit_1 (by decide) ?_
  refine lv_bipush (v := 57) hx hb dX2_isDigit_3 (by decide) ?_
  refine c_r (k_SN (As := [.int ch, .int 48, .int 57]) (rest := []) F (k_X0_in ch 48 57) ⟨va_cnB 3 hts (lw_meth q441) rfl rfl rfl (nm_7 hK) (hts _ q91) (by decide +kernel) ⟨Nat.le_of_ble_eq_true rfl, Nat.le_of_ble_eq_true rfl⟩, hts _ q440, trivial⟩ rfl hl.1 rfl (Nat.le_of_ble_eq_true rfl) dX2_isDigit_5 ⟨Nat.le_of_ble_eq_true rfl, Nat.le_of_ble_eq_true rfl⟩) ?_
  exact W.zret hx hb hr (t_bl2 (inI_01 _ _ _)) (fun t ht _ => ⟨rI (rfl), ht⟩) (fun q h => by cases h) dX2_isDigit_8
theorem k_X2_isLetter {l : Launch} {D : va_G} {L : Nat → Nat} {A : Nat → Prop} (x : cst) (ch : Int32) : Met l yX2_isLetter (ws_ yX2_isLetter cX2_isLetter 1 (some .boolean)) ({ frames := 1, cells := 0, slots := 0, locals := 22 } : Room) (va_Pc [.int ch] (pI D (cfC D L x) A)) (rQ (.int (inI ch 97 122))) 0 0 nof := by
  refine met_I (by decide) rfl (Nat.le_of_ble_eq_true rfl) ?_
  intro p e s m below meth c ls hx hb hr hml hown hts hlocks hl hI hK
  have F : CallFix p m c cX2_isLetter 1 s _ lw_all RX2 := ⟨hx, hb, hml, hown, hts⟩
  have hl : lv_has ls 1 [(0, .int ch)] := hl
  refine lv_iload_n hx hb dX2_isLetter_0 rfl (lv_at hl 0 rfl) ?_
  refine lv_bipush (v := 97) hx hb dX2_isLetter_1 (by decide) ?_
  refine lv_bipush (v := 122) hx hb dX2_isLetter_3 (by decide) ?_
  refine c_r (k_SN (As := [.int ch, .int 97, .int 122]) (rest := []) F (k_X0_in ch 97 122) ⟨va_cnB 3 hts (lw_meth q441) rfl rfl rfl (nm_7 hK) (hts _ q91) (by decide +kernel) ⟨Nat.le_of_ble_eq_true rfl, Nat.le_of_ble_eq_true rfl⟩, hts _ q440, trivial⟩ rfl hl.1 rfl (Nat.le_of_ble_eq_true rfl) dX2_isLetter_5 ⟨Nat.le_of_ble_eq_true rfl, Nat.le_of_ble_eq_true rfl⟩) ?_
  exact W.zret hx hb hr (t_bl2 (inI_01 _ _ _)) (fun t ht _ => ⟨rI (rfl), ht⟩) (fun q h => by cases h) dX2_isLetter_8
theorem k_X2_isWord {l : Launch} {D : va_G} {L : Nat → Nat} {A : Nat → Prop} (x : cst) (n : Nat) (hR : rOk x n) (w : wd) (a b k v : Nat) (hs : psOk n (w, a, b, k, v)) (q : Nat) (hq : q < 100) : Met l yX2_isWord (ws_ yX2_isWord cX2_isWord 2 (some .boolean)) ({ frames := 0, cells := 0, slots := 0, locals := 0 } : Room) (va_Pc [.ref (L 46), .int (nI q)] (pI D (cfC D L (rdX x (w, a, b, k, v))) A)) (rQ (.int (if k = 2 ∧ v = q then 1 else 0))) 0 0 nof := by
  refine met_I (by decide) rfl (Nat.le_of_ble_eq_true rfl) ?_
  intro p e s m below meth c ls hx hb hr hml hown hts hlocks hl hI hK
  have F : CallFix p m c cX2_isWord 2 s _ lw_all RX2 := ⟨hx, hb, hml, hown, hts⟩
  have hl : lv_has ls 2 [(0, .ref (L 46)), (1, .int (nI q))] := hl
  obtain ⟨hrn, hrN, hrt⟩ := id hR
  obtain ⟨ho0, ha0, hk0, hv0⟩ : wOk w ∧ a ≤ n ∧ k < 4 ∧ (k = 1 ∨ k = 2 → v < 1000000) := ⟨hs.1, hs.2.1, hs.2.2.1, hs.2.2.2⟩
  refine lv_aload_n hx hb dX2_isWord_0 rfl (lv_at hl 0 rfl) ?_
  refine r_get (v := .int (nI k)) (C := RX2) (T := TX2) (N := 8) hx hb hts in_X2 hown hK hI (cf_reader) rfl 6 (by decide) (hts _ q268) (fun _ h => h) (rdv (rd_3 x w a b k v)) dX2_isWord_1 ?_
  refine lv_iconst (v := 2) hx hb dX2_isWord_4 (by decide) ?_
  refine lv_icmp_ne (tgt := 20) hx hb dX2_isWord_5 (by decide) (fun c_5 => ?_) (fun c_5 => ?_)
  · skip
    have c_5 : ¬ k = 2 := fun z => c_5 ((neq (a := k) (b := 2) (rfl) (rfl) (by omega) (by omega)).mpr z)
    refine lv_iconst (v := 0) hx hb dX2_isWord_20 (by decide) ?_
    exact W.zret hx hb hr (rfl) (fun t ht _ => ⟨rI (by simp [c_5]), ht⟩) (fun q h => by cases h) dX2_isWord_21
  · skip
    have c_5 : k = 2 := (neq (a := k) (b := 2) (rfl) (rfl) (by omega) (by omega)).mp c_5
    refine lv_aload_n hx hb dX2_isWord_8 rfl (lv_at hl 0 rfl) ?_
    refine r_get (v := .int (nI v)) (C := RX2) (T := TX2) (N := 8) hx hb hts in_X2 hown hK hI (cf_reader) rfl 7 (by decide) (hts _ q269) (fun _ h => h) (rdv (rd_4 x w a b k v)) dX2_isWord_9 ?_
    refine lv_iload_n hx hb dX2_isWord_12 rfl (lv_at hl 1 rfl) ?_
    refine lv_icmp_ne (tgt := 20) hx hb dX2_isWord_13 (by decide) (fun c_13 => ?_) (fun c_13 => ?_)
    · skip
      have c_13 : ¬ v = q := fun z => c_13 ((neq (a := v) (b := q) (rfl) (rfl) (by omega) (by omega)).mpr z)
      refine lv_iconst (v := 0) hx hb dX2_isWord_20 (by decide) ?_
      exact W.zret hx hb hr (rfl) (fun t ht _ => ⟨rI (by simp [c_5, c_13]), ht⟩) (fun q h => by cases h) dX2_isWord_21
    · skip
      have c_13 : v = q := (neq (a := v) (b := q) (rfl) (rfl) (by omega) (by omega)).mp c_13
      refine lv_iconst (v := 1) hx hb dX2_isWord_16 (by decide) ?_
      refine lv_goto (tgt := 21) hx hb dX2_isWord_17 (by decide) ?_
      exact W.zret hx hb hr (rfl) (fun t ht _ => ⟨rI (by simp [c_5, c_13]), ht⟩) (fun q h => by cases h) dX2_isWord_21
theorem k_X2_need_1 {l : Launch} {D : va_G} {L : Nat → Nat} {A : Nat → Prop} (x : cst) (n : Nat) (hR : rOk x n) (w : wd) (a b k v : Nat) : Met l yX2_need (ws_ yX2_need cX2_need 2 none) ({ frames := 0, cells := 0, slots := 0, locals := 0 } : Room) (va_Pc [.ref (L 46), .int 1] (pI D (cfC D L (rdX x (w, a, b, k, v))) A)) (nQ D (cfC D L (rdX x (w, a, b, k, v))) A none) 0 0 A := by
  refine met_I (by decide) rfl (Nat.le_of_ble_eq_true rfl) ?_
  intro p e s m below meth c ls hx hb hr hml hown hts hlocks hl hI hK
  have F : CallFix p m c cX2_need 2 s _ lw_all RX2 := ⟨hx, hb, hml, hown, hts⟩
  have hl : lv_has ls 2 [(0, .ref (L 46)), (1, .int 1)] := hl
  have hS : va_S A s.heap s.heap [] := va_S.rf
  obtain ⟨hrn, hrN, hrt⟩ := id hR
  refine lv_iload_n hx hb dX2_need_0 rfl (lv_at hl 1 rfl) ?_
  refine lv_if_ne (tgt := 9) hx hb dX2_need_1 (by decide) (fun c_1 => ?_) (fun c_1 => ?_)
  · skip
    have c_1 : ¬ 1 = 0 := fun z => c_1 ((neq (a := 1) (b := 0) (rfl) (rfl) (by omega) (by omega)).mpr z)
    exact W.vret hx hb hr (fun t ht _ => ⟨rfl, by rw [ht]; exact hw_eq hI (congrArg (cfC D L) (rfl)), hS.F ht⟩) hS.2.2 dX2_need_9
  · skip
    have c_1 : 1 = 0 := (neq (a := 1) (b := 0) (rfl) (rfl) (by omega) (by omega)).mp c_1
    exact absurd c_1 (by decide)
theorem k_X2_need_0 {l : Launch} {D : va_G} {L : Nat → Nat} {A : Nat → Prop} {σ : Nat × Nat × Value} (x : cst) (n : Nat) (hR : rOk x n) (hσ : σ.2.2 = .null ∨ ∃ a, σ.2.2 = .ref a) (w : wd) (a b k v : Nat) : MetX l yX2_need (ws_ yX2_need cX2_need 2 none) ({ frames := 0, cells := 0, slots := 0, locals := 0 } : Room) (va_Pc [.ref (L 46), .int 0] (pS D (cfC D L (rdX x (w, a, b, k, v))) A σ)) (pQ D L (rdX x (w, a, b, k, v)) A (.inl b)) A := by
  refine met_XS (by decide) rfl (Nat.le_of_ble_eq_true rfl) ?_
  intro p e s m below meth c ls hx hb hr hml hown hts hlocks hl hI hK hSS hout
  have F : CallFix p m c cX2_need 2 s _ lw_all RX2 := ⟨hx, hb, hml, hown, hts⟩
  have hl : lv_has ls 2 [(0, .ref (L 46)), (1, .int 0)] := hl
  have hS : va_S A s.heap s.heap [] := va_S.rf
  obtain ⟨hrn, hrN, hrt⟩ := id hR
  refine lv_iload_n hx hb dX2_need_0 rfl (lv_at hl 1 rfl) ?_
  refine lv_if_ne (tgt := 9) hx hb dX2_need_1 (by decide) (fun c_1 => ?_) (fun c_1 => ?_)
  · skip
    have c_1 : ¬ 0 = 0 := fun z => c_1 ((neq (a := 0) (b := 0) (rfl) (rfl) (by omega) (by omega)).mpr z)
    exact absurd (by decide) c_1
  · skip
    have c_1 : 0 = 0 := (neq (a := 0) (b := 0) (rfl) (rfl) (by omega) (by omega)).mp c_1
    refine lv_aload_n hx hb dX2_need_4 rfl (lv_at hl 0 rfl) ?_
    refine r_get (C := RX2) (T := TX2) (N := 8) hx hb hts in_X2 hown hK hI (cf_reader) rfl 0 (by decide) (hts _ q258) (fun _ h => h) rfl dX2_need_5 ?_
    exact x_athrow hx hb hlocks hout (fun t ht _ => pq_thr rfl jk_rfl (rd_2 x w a b k v) (by rw [ht]; exact hI) (hS.F ht)) hS.2.2 dX2_need_8
theorem k_X2_isKey {l : Launch} {D : va_G} {L : Nat → Nat} {A : Nat → Prop} {σ : Nat × Nat × Value} (x : cst) (n : Nat) (hR : rOk x n) (hσ : σ.2.2 = .null ∨ ∃ a, σ.2.2 = .ref a) (w : wd) (a b k v : Nat) (q len : Nat) (hq : q < 13) (hbl : b + len ≤ n) (hlt : ∀ j, b ≤ j → j < b + len → ltB (x.2.1 2) n j = true) : Met l yX2_isKey (ws_ yX2_isKey cX2_isKey 5 (some .boolean)) ({ frames := 4, cells := 0, slots := 0, locals := 85 } : Room) (va_Pc [.ref (L 46), .int (nI q), .int (nI len)] (pS D (cfC D L (rdX x (w, a, b, k, v))) A σ)) (nQ D (cfC D L (rdX x (w, a, b, k, v))) A (some (.int (kyI (x.2.1 2) b len q)))) 0 0 A := by
  refine met_S (by decide) rfl (Nat.le_of_ble_eq_true rfl) ?_
  intro p e s m below meth c ls hx hb hr hml hown hts hlocks hl hI hK hSS
  have F : CallFix p m c cX2_isKey 5 s _ lw_all RX2 := ⟨hx, hb, hml, hown, hts⟩
  have hl : lv_has ls 5 [(0, .ref (L 46)), (1, .int (nI q)), (2, .int (nI len))] := hl
  have hS : va_S A s.heap s.heap [] := va_S.rf
  obtain ⟨hrn, hrN, hrt⟩ := id hR
  refine lv_iload_n hx hb dX2_isKey_0 rfl (lv_at hl 2 rfl) ?_
  refine lv_bipush (v := 7) hx hb dX2_isKey_1 (by decide) ?_
  refine lv_icmp_gt (tgt := 32) hx hb dX2_isKey_3 (by decide) (fun c_3 => ?_) (fun c_3 => ?_)
  · skip
    have c_3 : 7 < len := (nlt (a := 7) (b := len) (rfl) (rfl) (by omega) (by omega)).mp c_3
    refine lv_iconst (v := 0) hx hb dX2_isKey_32 (by decide) ?_
    refine lv_istore_n (lv' := [(3, .int 0), (0, .ref (L 46)), (1, .int (nI q)), (2, .int (nI len))]) hx hb dX2_isKey_33 rfl hl (by decide) rfl (fun ls hl => ?_)
    refine lv_iconst (v := 0) hx hb dX2_isKey_34 (by decide) ?_
    refine lv_istore (lv' := [(4, .int 0), (3, .int 0), (0, .ref (L 46)), (1, .int (nI q)), (2, .int (nI len))]) hx hb dX2_isKey_35 hl (by decide) rfl (fun ls hl => ?_)
    have lp37 : ∀ (fuel : Nat) (i : Nat), (i ≤ len) → len - i < fuel → ∀ (v3 : Int32), v3 = itr (kyS (x.2.1 2) b q) (ky0 len q) i → ∀ (v4 : Int32), v4 = nI i → ∀ (H : Heap) (locs : List Loc), hw D (cfC D L (rdX x (w, a, b, k, v))) A H → va_S A s.heap H locs → ∀ (ls : Array Slot), lv_has ls 5 [(0, .ref (L 46)), (1, .int (nI q)), (2, .int (nI len)), (3, .int v3), (4, .int v4)] → W p l e ({ frames := 4, cells := 0, slots := 0, locals := 85 } : Room) s m ([.ref (L 46), .int (nI q), .int (nI len)] : List Value).toArray below meth c H locs 0 0 (MQ below (nQ D (cfC D L (rdX x (w, a, b, k, v))) A (some (.int (kyI (x.2.1 2) b len q)))) ([.ref (L 46), .int (nI q), .int (nI len)] : List Value).toArray s 0 0 A) (F0 m 37 ls []) := by
      intro fuel
      induction fuel with
      | zero => intro i hi1 hf; exact absurd hf (Nat.not_lt_zero _)
      | succ fuel ih37 =>
        intro i hi1 hf37 v3 e3 v4 e4 H locs hI hS ls hl
        subst e3 e4
        refine lv_iload hx hb dX2_isKey_37 (lv_at hl 4 rfl) ?_
        refine lv_iload_n hx hb dX2_isKey_39 rfl (lv_at hl 2 rfl) ?_
        refine lv_icmp_ge (tgt := 85) hx hb dX2_isKey_40 (by decide) (fun c_40 => ?_) (fun c_40 => ?_)
        · skip
          have c_40 : len ≤ i := (nle (a := len) (b := i) (rfl) (rfl) (by omega) (by omega)).mp c_40
          refine lv_iload_n hx hb dX2_isKey_85 rfl (lv_at hl 3 rfl) ?_
          exact W.zret hx hb hr (ky_bl) (fun t ht _ => ⟨rI (by rw [kyI]; first | rw [show i = len by omega] | exact (ky_end c_44 (by omega)).symm | exact ky_end c_44 (by omega)), by rw [ht]; exact hw_eq hI (congrArg (cfC D L) (rfl)), hS.F ht⟩) hS.2.2 dX2_isKey_86
        · skip
          have c_40 : ¬ len ≤ i := fun z => c_40 ((nle (a := len) (b := i) (rfl) (rfl) (by omega) (by omega)).mpr z)
          refine lv_iload_n hx hb dX2_isKey_43 rfl (lv_at hl 3 rfl) ?_
          refine lv_if_eq (tgt := 85) hx hb dX2_isKey_44 (by decide) (fun c_44 => ?_) (fun c_44 => ?_)
          · skip
            refine lv_iload_n hx hb dX2_isKey_85 rfl (lv_at hl 3 rfl) ?_
            exact W.zret hx hb hr (ky_bl) (fun t ht _ => ⟨rI (by rw [kyI]; first | rw [show i = len by omega] | exact (ky_end c_44 (by omega)).symm | exact ky_end c_44 (by omega)), by rw [ht]; exact hw_eq hI (congrArg (cfC D L) (rfl)), hS.F ht⟩) hS.2.2 dX2_isKey_86
          · skip
            have hl7 := ky_7 c_44
            refine va_ldcS hx hb hown hSS.1 dX2_isKey_47 ?_
            refine lv_bipush (v := 7) hx hb dX2_isKey_49 (by decide) ?_
            refine lv_iload_n hx hb dX2_isKey_51 rfl (lv_at hl 1 rfl) ?_
            refine lv_imul hx hb dX2_isKey_52 ?_
            refine lv_iload hx hb dX2_isKey_53 (lv_at hl 4 rfl) ?_
            refine lv_iadd hx hb dX2_isKey_55 ?_
            rw [show (7 : Int32) * nI q + nI i = nI (7 * q + i) from na_add (na_mul rfl rfl) rfl]
            refine c_m (k_VS (As := [.int (nI (7 * q + i))]) (rest := []) F (k_J5_charAt (7 * q + i) (by omega) hσ) (cwV 1 hts (lw_V q973 q974 q975 q111 q976) rfl rfl rfl (by decide +kernel) ⟨Nat.le_of_ble_eq_true rfl, Nat.le_of_ble_eq_true rfl⟩) hI hK hSS hS (vk_recv (i := 0) hSS.2.1 (by decide) hS) rfl hl.1 rfl (Nat.le_of_ble_eq_true rfl) dX2_isKey_56 ⟨Nat.le_of_ble_eq_true rfl, Nat.le_of_ble_eq_true rfl⟩) hS (fun H1 locs1 hI hS => ?_)
            refine lv_aload_n hx hb dX2_isKey_59 rfl (lv_at hl 0 rfl) ?_
            refine lv_aload_n hx hb dX2_isKey_60 rfl (lv_at hl 0 rfl) ?_
            refine r_get (v := .int (nI b)) (C := RX2) (T := TX2) (N := 8) hx hb hts in_X2 hown hK hI (cf_reader) rfl 5 (by decide) (hts _ q266) (fun _ h => h) (rdv (rd_2 x w a b k v)) dX2_isKey_61 ?_
            refine lv_iload hx hb dX2_isKey_64 (lv_at hl 4 rfl) ?_
            refine lv_iadd hx hb dX2_isKey_66 ?_
            rw [nI_add]
            refine c_r (k_V (As := [.int (nI (b + i))]) (rest := [.int (nI (keyL.getD (7 * q + i) 0))]) F (k_X2_byteAt x n hR w a b k v (b + i) (by omega)) (cwV 1 hts (lw_V q956 q958 qs30 q96 q959) rfl rfl rfl (by decide +kernel) ⟨Nat.le_of_ble_eq_true rfl, Nat.le_of_ble_eq_true rfl⟩) hI hK (hw.recv hI hK (cf_reader) rfl) rfl hl.1 rfl (Nat.le_of_ble_eq_true rfl) dX2_isKey_67 ⟨Nat.le_of_ble_eq_true rfl, Nat.le_of_ble_eq_true rfl⟩) ?_
            refine lv_icmp_ne (tgt := 77) hx hb dX2_isKey_70 (by decide) (fun c_70 => ?_) (fun c_70 => ?_)
            · skip
              refine lv_iconst (v := 0) hx hb dX2_isKey_77 (by decide) ?_
              refine lv_istore_n (lv' := [(3, .int 0), (0, .ref (L 46)), (1, .int (nI q)), (2, .int (nI len)), (4, .int (nI i))]) hx hb dX2_isKey_78 rfl hl (by decide) rfl (fun ls hl => ?_)
              refine lv_iinc (v := (nI (i + 1))) (lv' := [(4, .int (nI (i + 1))), (3, .int 0), (0, .ref (L 46)), (1, .int (nI q)), (2, .int (nI len))]) hx hb dX2_isKey_79 hl (k := 4) rfl (nI_1 _) (by decide) rfl (fun ls hl => ?_)
              refine lv_goto (tgt := 37) hx hb dX2_isKey_82 (by decide) ?_
              exact ih37 (i + 1) (by omega) (by omega) _ (by rw [itr_s]; first | exact (ky_s1 c_44 (c_70.trans (by_le hrt hrN (hlt _ (by omega) (by omega))))).symm | exact (ky_s0 c_44 (fun z => c_70 (z.trans (by_le hrt hrN (hlt _ (by omega) (by omega))).symm))).symm) _ (rfl) _ _ hI hS ls (lv_sub hl [2, 3, 4, 1, 0] rfl)
            · skip
              refine lv_iconst (v := 1) hx hb dX2_isKey_73 (by decide) ?_
              refine lv_goto (tgt := 78) hx hb dX2_isKey_74 (by decide) ?_
              refine lv_istore_n (lv' := [(3, .int 1), (0, .ref (L 46)), (1, .int (nI q)), (2, .int (nI len)), (4, .int (nI i))]) hx hb dX2_isKey_78 rfl hl (by decide) rfl (fun ls hl => ?_)
              refine lv_iinc (v := (nI (i + 1))) (lv' := [(4, .int (nI (i + 1))), (3, .int 1), (0, .ref (L 46)), (1, .int (nI q)), (2, .int (nI len))]) hx hb dX2_isKey_79 hl (k := 4) rfl (nI_1 _) (by decide) rfl (fun ls hl => ?_)
              refine lv_goto (tgt := 37) hx hb dX2_isKey_82 (by decide) ?_
              exact ih37 (i + 1) (by omega) (by omega) _ (by rw [itr_s]; first | exact (ky_s1 c_44 (c_70.trans (by_le hrt hrN (hlt _ (by omega) (by omega))))).symm | exact (ky_s0 c_44 (fun z => c_70 (z.trans (by_le hrt hrN (hlt _ (by omega) (by omega))).symm))).symm) _ (rfl) _ _ hI hS ls (lv_sub hl [2, 3, 4, 1, 0] rfl)
    exact lp37 (_ + 1) (0) (by omega) (Nat.lt_succ_self _) _ (by show _ = ky0 len q; first | exact (ky0_8 (by omega)).symm | (rw [show len = 7 by omega]; rfl) | exact (ky0_1 (by omega) c_25).symm | exact (ky0_0 (by omega) c_25).symm) _ (rfl) _ _ hI hS ls (lv_sub hl [2, 3, 4, 1, 0] rfl)
  · skip
    have c_3 : ¬ 7 < len := fun z => c_3 ((nlt (a := 7) (b := len) (rfl) (rfl) (by omega) (by omega)).mpr z)
    refine lv_iload_n hx hb dX2_isKey_6 rfl (lv_at hl 2 rfl) ?_
    refine lv_bipush (v := 7) hx hb dX2_isKey_7 (by decide) ?_
    refine lv_icmp_eq (tgt := 28) hx hb dX2_isKey_9 (by decide) (fun c_9 => ?_) (fun c_9 => ?_)
    · skip
      have c_9 : len = 7 := (neq (a := len) (b := 7) (rfl) (rfl) (by omega) (by omega)).mp c_9
      refine lv_iconst (v := 1) hx hb dX2_isKey_28 (by decide) ?_
      refine lv_goto (tgt := 33) hx hb dX2_isKey_29 (by decide) ?_
      refine lv_istore_n (lv' := [(3, .int 1), (0, .ref (L 46)), (1, .int (nI q)), (2, .int (nI len))]) hx hb dX2_isKey_33 rfl hl (by decide) rfl (fun ls hl => ?_)
      refine lv_iconst (v := 0) hx hb dX2_isKey_34 (by decide) ?_
      refine lv_istore (lv' := [(4, .int 0), (3, .int 1), (0, .ref (L 46)), (1, .int (nI q)), (2, .int (nI len))]) hx hb dX2_isKey_35 hl (by decide) rfl (fun ls hl => ?_)
      have lp37 : ∀ (fuel : Nat) (i : Nat), (i ≤ len) → len - i < fuel → ∀ (v3 : Int32), v3 = itr (kyS (x.2.1 2) b q) (ky0 len q) i → ∀ (v4 : Int32), v4 = nI i → ∀ (H : Heap) (locs : List Loc), hw D (cfC D L (rdX x (w, a, b, k, v))) A H → va_S A s.heap H locs → ∀ (ls : Array Slot), lv_has ls 5 [(0, .ref (L 46)), (1, .int (nI q)), (2, .int (nI len)), (3, .int v3), (4, .int v4)] → W p l e ({ frames := 4, cells := 0, slots := 0, locals := 85 } : Room) s m ([.ref (L 46), .int (nI q), .int (nI len)] : List Value).toArray below meth c H locs 0 0 (MQ below (nQ D (cfC D L (rdX x (w, a, b, k, v))) A (some (.int (kyI (x.2.1 2) b len q)))) ([.ref (L 46), .int (nI q), .int (nI len)] : List Value).toArray s 0 0 A) (F0 m 37 ls []) := by
        intro fuel
        induction fuel with
        | zero => intro i hi1 hf; exact absurd hf (Nat.not_lt_zero _)
        | succ fuel ih37 =>
          intro i hi1 hf37 v3 e3 v4 e4 H locs hI hS ls hl
          subst e3 e4
          refine lv_iload hx hb dX2_isKey_37 (lv_at hl 4 rfl) ?_
          refine lv_iload_n hx hb dX2_isKey_39 rfl (lv_at hl 2 rfl) ?_
          refine lv_icmp_ge (tgt := 85) hx hb dX2_isKey_40 (by decide) (fun c_40 => ?_) (fun c_40 => ?_)
          · skip
            have c_40 : len ≤ i := (nle (a := len) (b := i) (rfl) (rfl) (by omega) (by omega)).mp c_40
            refine lv_iload_n hx hb dX2_isKey_85 rfl (lv_at hl 3 rfl) ?_
            exact W.zret hx hb hr (ky_bl) (fun t ht _ => ⟨rI (by rw [kyI]; first | rw [show i = len by omega] | exact (ky_end c_44 (by omega)).symm | exact ky_end c_44 (by omega)), by rw [ht]; exact hw_eq hI (congrArg (cfC D L) (rfl)), hS.F ht⟩) hS.2.2 dX2_isKey_86
          · skip
            have c_40 : ¬ len ≤ i := fun z => c_40 ((nle (a := len) (b := i) (rfl) (rfl) (by omega) (by omega)).mpr z)
            refine lv_iload_n hx hb dX2_isKey_43 rfl (lv_at hl 3 rfl) ?_
            refine lv_if_eq (tgt := 85) hx hb dX2_isKey_44 (by decide) (fun c_44 => ?_) (fun c_44 => ?_)
            · skip
              refine lv_iload_n hx hb dX2_isKey_85 rfl (lv_at hl 3 rfl) ?_
              exact W.zret hx hb hr (ky_bl) (fun t ht _ => ⟨rI (by rw [kyI]; first | rw [show i = len by omega] | exact (ky_end c_44 (by omega)).symm | exact ky_end c_44 (by omega)), by rw [ht]; exact hw_eq hI (congrArg (cfC D L) (rfl)), hS.F ht⟩) hS.2.2 dX2_isKey_86
            · skip
              have hl7 := ky_7 c_44
              refine va_ldcS hx hb hown hSS.1 dX2_isKey_47 ?_
              refine lv_bipush (v := 7) hx hb dX2_isKey_49 (by decide) ?_
              refine lv_iload_n hx hb dX2_isKey_51 rfl (lv_at hl 1 rfl) ?_
              refine lv_imul hx hb dX2_isKey_52 ?_
              refine lv_iload hx hb dX2_isKey_53 (lv_at hl 4 rfl) ?_
              refine lv_iadd hx hb dX2_isKey_55 ?_
              rw [show (7 : Int32) * nI q + nI i = nI (7 * q + i) from na_add (na_mul rfl rfl) rfl]
              refine c_m (k_VS (As := [.int (nI (7 * q + i))]) (rest := []) F (k_J5_charAt (7 * q + i) (by omega) hσ) (cwV 1 hts (lw_V q973 q974 q975 q111 q976) rfl rfl rfl (by decide +kernel) ⟨Nat.le_of_ble_eq_true rfl, Nat.le_of_ble_eq_true rfl⟩) hI hK hSS hS (vk_recv (i := 0) hSS.2.1 (by decide) hS) rfl hl.1 rfl (Nat.le_of_ble_eq_true rfl) dX2_isKey_56 ⟨Nat.le_of_ble_eq_true rfl, Nat.le_of_ble_eq_true rfl⟩) hS (fun H1 locs1 hI hS => ?_)
              refine lv_aload_n hx hb dX2_isKey_59 rfl (lv_at hl 0 rfl) ?_
              refine lv_aload_n hx hb dX2_isKey_60 rfl (lv_at hl 0 rfl) ?_
              refine r_get (v := .int (nI b)) (C := RX2) (T := TX2) (N := 8) hx hb hts in_X2 hown hK hI (cf_reader) rfl 5 (by decide) (hts _ q266) (fun _ h => h) (rdv (rd_2 x w a b k v)) dX2_isKey_61 ?_
              refine lv_iload hx hb dX2_isKey_64 (lv_at hl 4 rfl) ?_
              refine lv_iadd hx hb dX2_isKey_66 ?_
              rw [nI_add]
              refine c_r (k_V (As := [.int (nI (b + i))]) (rest := [.int (nI (keyL.getD (7 * q + i) 0))]) F (k_X2_byteAt x n hR w a b k v (b + i) (by omega)) (cwV 1 hts (lw_V q956 q958 qs30 q96 q959) rfl rfl rfl (by decide +kernel) ⟨Nat.le_of_ble_eq_true rfl, Nat.le_of_ble_eq_true rfl⟩) hI hK (hw.recv hI hK (cf_reader) rfl) rfl hl.1 rfl (Nat.le_of_ble_eq_true rfl) dX2_isKey_67 ⟨Nat.le_of_ble_eq_true rfl, Nat.le_of_ble_eq_true rfl⟩) ?_
              refine lv_icmp_ne (tgt := 77) hx hb dX2_isKey_70 (by decide) (fun c_70 => ?_) (fun c_70 => ?_)
              · skip
                refine lv_iconst (v := 0) hx hb dX2_isKey_77 (by decide) ?_
                refine lv_istore_n (lv' := [(3, .int 0), (0, .ref (L 46)), (1, .int (nI q)), (2, .int (nI len)), (4, .int (nI i))]) hx hb dX2_isKey_78 rfl hl (by decide) rfl (fun ls hl => ?_)
                refine lv_iinc (v := (nI (i + 1))) (lv' := [(4, .int (nI (i + 1))), (3, .int 0), (0, .ref (L 46)), (1, .int (nI q)), (2, .int (nI len))]) hx hb dX2_isKey_79 hl (k := 4) rfl (nI_1 _) (by decide) rfl (fun ls hl => ?_)
                refine lv_goto (tgt := 37) hx hb dX2_isKey_82 (by decide) ?_
                exact ih37 (i + 1) (by omega) (by omega) _ (by rw [itr_s]; first | exact (ky_s1 c_44 (c_70.trans (by_le hrt hrN (hlt _ (by omega) (by omega))))).symm | exact (ky_s0 c_44 (fun z => c_70 (z.trans (by_le hrt hrN (hlt _ (by omega) (by omega))).symm))).symm) _ (rfl) _ _ hI hS ls (lv_sub hl [2, 3, 4, 1, 0] rfl)
              · skip
                refine lv_iconst (v := 1) hx hb dX2_isKey_73 (by decide) ?_
                refine lv_goto (tgt := 78) hx hb dX2_isKey_74 (by decide) ?_
                refine lv_istore_n (lv' := [(3, .int 1), (0, .ref (L 46)), (1, .int (nI q)), (2, .int (nI len)), (4, .int (nI i))]) hx hb dX2_isKey_78 rfl hl (by decide) rfl (fun ls hl => ?_)
                refine lv_iinc (v := (nI (i + 1))) (lv' := [(4, .int (nI (i + 1))), (3, .int 1), (0, .ref (L 46)), (1, .int (nI q)), (2, .int (nI len))]) hx hb dX2_isKey_79 hl (k := 4) rfl (nI_1 _) (by decide) rfl (fun ls hl => ?_)
                refine lv_goto (tgt := 37) hx hb dX2_isKey_82 (by decide) ?_
                exact ih37 (i + 1) (by omega) (by omega) _ (by rw [itr_s]; first | exact (ky_s1 c_44 (c_70.trans (by_le hrt hrN (hlt _ (by omega) (by omega))))).symm | exact (ky_s0 c_44 (fun z => c_70 (z.trans (by_le hrt hrN (hlt _ (by omega) (by omega))).symm))).symm) _ (rfl) _ _ hI hS ls (lv_sub hl [2, 3, 4, 1, 0] rfl)
      exact lp37 (_ + 1) (0) (by omega) (Nat.lt_succ_self _) _ (by show _ = ky0 len q; first | exact (ky0_8 (by omega)).symm | (rw [show len = 7 by omega]; rfl) | exact (ky0_1 (by omega) c_25).symm | exact (ky0_0 (by omega) c_25).symm) _ (rfl) _ _ hI hS ls (lv_sub hl [2, 3, 4, 1, 0] rfl)
    · skip
      have c_9 : ¬ len = 7 := fun z => c_9 ((neq (a := len) (b := 7) (rfl) (rfl) (by omega) (by omega)).mpr z)
      refine va_ldcS hx hb hown hSS.1 dX2_isKey_12 ?_
      refine lv_bipush (v := 7) hx hb dX2_isKey_14 (by decide) ?_
      refine lv_iload_n hx hb dX2_isKey_16 rfl (lv_at hl 1 rfl) ?_
      refine lv_imul hx hb dX2_isKey_17 ?_
      refine lv_iload_n hx hb dX2_isKey_18 rfl (lv_at hl 2 rfl) ?_
      refine lv_iadd hx hb dX2_isKey_19 ?_
      rw [show (7 : Int32) * nI q + nI len = nI (7 * q + len) from na_add (na_mul rfl rfl) rfl]
      refine c_m (k_VS (As := [.int (nI (7 * q + len))]) (rest := []) F (k_J5_charAt (7 * q + len) (by omega) hσ) (cwV 1 hts (lw_V q973 q974 q975 q111 q976) rfl rfl rfl (by decide +kernel) ⟨Nat.le_of_ble_eq_true rfl, Nat.le_of_ble_eq_true rfl⟩) hI hK hSS hS (vk_recv (i := 0) hSS.2.1 (by decide) hS) rfl hl.1 rfl (Nat.le_of_ble_eq_true rfl) dX2_isKey_20 ⟨Nat.le_of_ble_eq_true rfl, Nat.le_of_ble_eq_true rfl⟩) hS (fun H1 locs1 hI hS => ?_)
      refine lv_bipush (v := 32) hx hb dX2_isKey_23 (by decide) ?_
      refine lv_icmp_ne (tgt := 32) hx hb dX2_isKey_25 (by decide) (fun c_25 => ?_) (fun c_25 => ?_)
      · skip
        refine lv_iconst (v := 0) hx hb dX2_isKey_32 (by decide) ?_
        refine lv_istore_n (lv' := [(3, .int 0), (0, .ref (L 46)), (1, .int (nI q)), (2, .int (nI len))]) hx hb dX2_isKey_33 rfl hl (by decide) rfl (fun ls hl => ?_)
        refine lv_iconst (v := 0) hx hb dX2_isKey_34 (by decide) ?_
        refine lv_istore (lv' := [(4, .int 0), (3, .int 0), (0, .ref (L 46)), (1, .int (nI q)), (2, .int (nI len))]) hx hb dX2_isKey_35 hl (by decide) rfl (fun ls hl => ?_)
        have lp37 : ∀ (fuel : Nat) (i : Nat), (i ≤ len) → len - i < fuel → ∀ (v3 : Int32), v3 = itr (kyS (x.2.1 2) b q) (ky0 len q) i → ∀ (v4 : Int32), v4 = nI i → ∀ (H : Heap) (locs : List Loc), hw D (cfC D L (rdX x (w, a, b, k, v))) A H → va_S A s.heap H locs → ∀ (ls : Array Slot), lv_has ls 5 [(0, .ref (L 46)), (1, .int (nI q)), (2, .int (nI len)), (3, .int v3), (4, .int v4)] → W p l e ({ frames := 4, cells := 0, slots := 0, locals := 85 } : Room) s m ([.ref (L 46), .int (nI q), .int (nI len)] : List Value).toArray below meth c H locs 0 0 (MQ below (nQ D (cfC D L (rdX x (w, a, b, k, v))) A (some (.int (kyI (x.2.1 2) b len q)))) ([.ref (L 46), .int (nI q), .int (nI len)] : List Value).toArray s 0 0 A) (F0 m 37 ls []) := by
          intro fuel
          induction fuel with
          | zero => intro i hi1 hf; exact absurd hf (Nat.not_lt_zero _)
          | succ fuel ih37 =>
            intro i hi1 hf37 v3 e3 v4 e4 H locs hI hS ls hl
            subst e3 e4
            refine lv_iload hx hb dX2_isKey_37 (lv_at hl 4 rfl) ?_
            refine lv_iload_n hx hb dX2_isKey_39 rfl (lv_at hl 2 rfl) ?_
            refine lv_icmp_ge (tgt := 85) hx hb dX2_isKey_40 (by decide) (fun c_40 => ?_) (fun c_40 => ?_)
            · skip
              have c_40 : len ≤ i := (nle (a := len) (b := i) (rfl) (rfl) (by omega) (by omega)).mp c_40
              refine lv_iload_n hx hb dX2_isKey_85 rfl (lv_at hl 3 rfl) ?_
              exact W.zret hx hb hr (ky_bl) (fun t ht _ => ⟨rI (by rw [kyI]; first | rw [show i = len by omega] | exact (ky_end c_44 (by omega)).symm | exact ky_end c_44 (by omega)), by rw [ht]; exact hw_eq hI (congrArg (cfC D L) (rfl)), hS.F ht⟩) hS.2.2 dX2_isKey_86
            · skip
              have c_40 : ¬ len ≤ i := fun z => c_40 ((nle (a := len) (b := i) (rfl) (rfl) (by omega) (by omega)).mpr z)
              refine lv_iload_n hx hb dX2_isKey_43 rfl (lv_at hl 3 rfl) ?_
              refine lv_if_eq (tgt := 85) hx hb dX2_isKey_44 (by decide) (fun c_44 => ?_) (fun c_44 => ?_)
              · skip
                refine lv_iload_n hx hb dX2_isKey_85 rfl (lv_at hl 3 rfl) ?_
                exact W.zret hx hb hr (ky_bl) (fun t ht _ => ⟨rI (by rw [kyI]; first | rw [show i = len by omega] | exact (ky_end c_44 (by omega)).symm | exact ky_end c_44 (by omega)), by rw [ht]; exact hw_eq hI (congrArg (cfC D L) (rfl)), hS.F ht⟩) hS.2.2 dX2_isKey_86
              · skip
                have hl7 := ky_7 c_44
                refine va_ldcS hx hb hown hSS.1 dX2_isKey_47 ?_
                refine lv_bipush (v := 7) hx hb dX2_isKey_49 (by decide) ?_
                refine lv_iload_n hx hb dX2_isKey_51 rfl (lv_at hl 1 rfl) ?_
                refine lv_imul hx hb dX2_isKey_52 ?_
                refine lv_iload hx hb dX2_isKey_53 (lv_at hl 4 rfl) ?_
                refine lv_iadd hx hb dX2_isKey_55 ?_
                rw [show (7 : Int32) * nI q + nI i = nI (7 * q + i) from na_add (na_mul rfl rfl) rfl]
                refine c_m (k_VS (As := [.int (nI (7 * q + i))]) (rest := []) F (k_J5_charAt (7 * q + i) (by omega) hσ) (cwV 1 hts (lw_V q973 q974 q975 q111 q976) rfl rfl rfl (by decide +kernel) ⟨Nat.le_of_ble_eq_true rfl, Nat.le_of_ble_eq_true rfl⟩) hI hK hSS hS (vk_recv (i := 0) hSS.2.1 (by decide) hS) rfl hl.1 rfl (Nat.le_of_ble_eq_true rfl) dX2_isKey_56 ⟨Nat.le_of_ble_eq_true rfl, Nat.le_of_ble_eq_true rfl⟩) hS (fun H1 locs1 hI hS => ?_)
                refine lv_aload_n hx hb dX2_isKey_59 rfl (lv_at hl 0 rfl) ?_
                refine lv_aload_n hx hb dX2_isKey_60 rfl (lv_at hl 0 rfl) ?_
                refine r_get (v := .int (nI b)) (C := RX2) (T := TX2) (N := 8) hx hb hts in_X2 hown hK hI (cf_reader) rfl 5 (by decide) (hts _ q266) (fun _ h => h) (rdv (rd_2 x w a b k v)) dX2_isKey_61 ?_
                refine lv_iload hx hb dX2_isKey_64 (lv_at hl 4 rfl) ?_
                refine lv_iadd hx hb dX2_isKey_66 ?_
                rw [nI_add]
                refine c_r (k_V (As := [.int (nI (b + i))]) (rest := [.int (nI (keyL.getD (7 * q + i) 0))]) F (k_X2_byteAt x n hR w a b k v (b + i) (by omega)) (cwV 1 hts (lw_V q956 q958 qs30 q96 q959) rfl rfl rfl (by decide +kernel) ⟨Nat.le_of_ble_eq_true rfl, Nat.le_of_ble_eq_true rfl⟩) hI hK (hw.recv hI hK (cf_reader) rfl) rfl hl.1 rfl (Nat.le_of_ble_eq_true rfl) dX2_isKey_67 ⟨Nat.le_of_ble_eq_true rfl, Nat.le_of_ble_eq_true rfl⟩) ?_
                refine lv_icmp_ne (tgt := 77) hx hb dX2_isKey_70 (by decide) (fun c_70 => ?_) (fun c_70 => ?_)
                · skip
                  refine lv_iconst (v := 0) hx hb dX2_isKey_77 (by decide) ?_
                  refine lv_istore_n (lv' := [(3, .int 0), (0, .ref (L 46)), (1, .int (nI q)), (2, .int (nI len)), (4, .int (nI i))]) hx hb dX2_isKey_78 rfl hl (by decide) rfl (fun ls hl => ?_)
                  refine lv_iinc (v := (nI (i + 1))) (lv' := [(4, .int (nI (i + 1))), (3, .int 0), (0, .ref (L 46)), (1, .int (nI q)), (2, .int (nI len))]) hx hb dX2_isKey_79 hl (k := 4) rfl (nI_1 _) (by decide) rfl (fun ls hl => ?_)
                  refine lv_goto (tgt := 37) hx hb dX2_isKey_82 (by decide) ?_
                  exact ih37 (i + 1) (by omega) (by omega) _ (by rw [itr_s]; first | exact (ky_s1 c_44 (c_70.trans (by_le hrt hrN (hlt _ (by omega) (by omega))))).symm | exact (ky_s0 c_44 (fun z => c_70 (z.trans (by_le hrt hrN (hlt _ (by omega) (by omega))).symm))).symm) _ (rfl) _ _ hI hS ls (lv_sub hl [2, 3, 4, 1, 0] rfl)
                · skip
                  refine lv_iconst (v := 1) hx hb dX2_isKey_73 (by decide) ?_
                  refine lv_goto (tgt := 78) hx hb dX2_isKey_74 (by decide) ?_
                  refine lv_istore_n (lv' := [(3, .int 1), (0, .ref (L 46)), (1, .int (nI q)), (2, .int (nI len)), (4, .int (nI i))]) hx hb dX2_isKey_78 rfl hl (by decide) rfl (fun ls hl => ?_)
                  refine lv_iinc (v := (nI (i + 1))) (lv' := [(4, .int (nI (i + 1))), (3, .int 1), (0, .ref (L 46)), (1, .int (nI q)), (2, .int (nI len))]) hx hb dX2_isKey_79 hl (k := 4) rfl (nI_1 _) (by decide) rfl (fun ls hl => ?_)
                  refine lv_goto (tgt := 37) hx hb dX2_isKey_82 (by decide) ?_
                  exact ih37 (i + 1) (by omega) (by omega) _ (by rw [itr_s]; first | exact (ky_s1 c_44 (c_70.trans (by_le hrt hrN (hlt _ (by omega) (by omega))))).symm | exact (ky_s0 c_44 (fun z => c_70 (z.trans (by_le hrt hrN (hlt _ (by omega) (by omega))).symm))).symm) _ (rfl) _ _ hI hS ls (lv_sub hl [2, 3, 4, 1, 0] rfl)
        exact lp37 (_ + 1) (0) (by omega) (Nat.lt_succ_self _) _ (by show _ = ky0 len q; first | exact (ky0_8 (by omega)).symm | (rw [show len = 7 by omega]; rfl) | exact (ky0_1 (by omega) c_25).symm | exact (ky0_0 (by omega) c_25).symm) _ (rfl) _ _ hI hS ls (lv_sub hl [2, 3, 4, 1, 0] rfl)
      · skip
        refine lv_iconst (v := 1) hx hb dX2_isKey_28 (by decide) ?_
        refine lv_goto (tgt := 33) hx hb dX2_isKey_29 (by decide) ?_
        refine lv_istore_n (lv' := [(3, .int 1), (0, .ref (L 46)), (1, .int (nI q)), (2, .int (nI len))]) hx hb dX2_isKey_33 rfl hl (by decide) rfl (fun ls hl => ?_)
        refine lv_iconst (v := 0) hx hb dX2_isKey_34 (by decide) ?_
        refine lv_istore (lv' := [(4, .int 0), (3, .int 1), (0, .ref (L 46)), (1, .int (nI q)), (2, .int (nI len))]) hx hb dX2_isKey_35 hl (by decide) rfl (fun ls hl => ?_)
        have lp37 : ∀ (fuel : Nat) (i : Nat), (i ≤ len) → len - i < fuel → ∀ (v3 : Int32), v3 = itr (kyS (x.2.1 2) b q) (ky0 len q) i → ∀ (v4 : Int32), v4 = nI i → ∀ (H : Heap) (locs : List Loc), hw D (cfC D L (rdX x (w, a, b, k, v))) A H → va_S A s.heap H locs → ∀ (ls : Array Slot), lv_has ls 5 [(0, .ref (L 46)), (1, .int (nI q)), (2, .int (nI len)), (3, .int v3), (4, .int v4)] → W p l e ({ frames := 4, cells := 0, slots := 0, locals := 85 } : Room) s m ([.ref (L 46), .int (nI q), .int (nI len)] : List Value).toArray below meth c H locs 0 0 (MQ below (nQ D (cfC D L (rdX x (w, a, b, k, v))) A (some (.int (kyI (x.2.1 2) b len q)))) ([.ref (L 46), .int (nI q), .int (nI len)] : List Value).toArray s 0 0 A) (F0 m 37 ls []) := by
          intro fuel
          induction fuel with
          | zero => intro i hi1 hf; exact absurd hf (Nat.not_lt_zero _)
          | succ fuel ih37 =>
            intro i hi1 hf37 v3 e3 v4 e4 H locs hI hS ls hl
            subst e3 e4
            refine lv_iload hx hb dX2_isKey_37 (lv_at hl 4 rfl) ?_
            refine lv_iload_n hx hb dX2_isKey_39 rfl (lv_at hl 2 rfl) ?_
            refine lv_icmp_ge (tgt := 85) hx hb dX2_isKey_40 (by decide) (fun c_40 => ?_) (fun c_40 => ?_)
            · skip
              have c_40 : len ≤ i := (nle (a := len) (b := i) (rfl) (rfl) (by omega) (by omega)).mp c_40
              refine lv_iload_n hx hb dX2_isKey_85 rfl (lv_at hl 3 rfl) ?_
              exact W.zret hx hb hr (ky_bl) (fun t ht _ => ⟨rI (by rw [kyI]; first | rw [show i = len by omega] | exact (ky_end c_44 (by omega)).symm | exact ky_end c_44 (by omega)), by rw [ht]; exact hw_eq hI (congrArg (cfC D L) (rfl)), hS.F ht⟩) hS.2.2 dX2_isKey_86
            · skip
              have c_40 : ¬ len ≤ i := fun z => c_40 ((nle (a := len) (b := i) (rfl) (rfl) (by omega) (by omega)).mpr z)
              refine lv_iload_n hx hb dX2_isKey_43 rfl (lv_at hl 3 rfl) ?_
              refine lv_if_eq (tgt := 85) hx hb dX2_isKey_44 (by decide) (fun c_44 => ?_) (fun c_44 => ?_)
              · skip
                refine lv_iload_n hx hb dX2_isKey_85 rfl (lv_at hl 3 rfl) ?_
                exact W.zret hx hb hr (ky_bl) (fun t ht _ => ⟨rI (by rw [kyI]; first | rw [show i = len by omega] | exact (ky_end c_44 (by omega)).symm | exact ky_end c_44 (by omega)), by rw [ht]; exact hw_eq hI (congrArg (cfC D L) (rfl)), hS.F ht⟩) hS.2.2 dX2_isKey_86
              · skip
                have hl7 := ky_7 c_44
                refine va_ldcS hx hb hown hSS.1 dX2_isKey_47 ?_
                refine lv_bipush (v := 7) hx hb dX2_isKey_49 (by decide) ?_
                refine lv_iload_n hx hb dX2_isKey_51 rfl (lv_at hl 1 rfl) ?_
                refine lv_imul hx hb dX2_isKey_52 ?_
                refine lv_iload hx hb dX2_isKey_53 (lv_at hl 4 rfl) ?_
                refine lv_iadd hx hb dX2_isKey_55 ?_
                rw [show (7 : Int32) * nI q + nI i = nI (7 * q + i) from na_add (na_mul rfl rfl) rfl]
                refine c_m (k_VS (As := [.int (nI (7 * q + i))]) (rest := []) F (k_J5_charAt (7 * q + i) (by omega) hσ) (cwV 1 hts (lw_V q973 q974 q975 q111 q976) rfl rfl rfl (by decide +kernel) ⟨Nat.le_of_ble_eq_true rfl, Nat.le_of_ble_eq_true rfl⟩) hI hK hSS hS (vk_recv (i := 0) hSS.2.1 (by decide) hS) rfl hl.1 rfl (Nat.le_of_ble_eq_true rfl) dX2_isKey_56 ⟨Nat.le_of_ble_eq_true rfl, Nat.le_of_ble_eq_true rfl⟩) hS (fun H1 locs1 hI hS => ?_)
                refine lv_aload_n hx hb dX2_isKey_59 rfl (lv_at hl 0 rfl) ?_
                refine lv_aload_n hx hb dX2_isKey_60 rfl (lv_at hl 0 rfl) ?_
                refine r_get (v := .int (nI b)) (C := RX2) (T := TX2) (N := 8) hx hb hts in_X2 hown hK hI (cf_reader) rfl 5 (by decide) (hts _ q266) (fun _ h => h) (rdv (rd_2 x w a b k v)) dX2_isKey_61 ?_
                refine lv_iload hx hb dX2_isKey_64 (lv_at hl 4 rfl) ?_
                refine lv_iadd hx hb dX2_isKey_66 ?_
                rw [nI_add]
                refine c_r (k_V (As := [.int (nI (b + i))]) (rest := [.int (nI (keyL.getD (7 * q + i) 0))]) F (k_X2_byteAt x n hR w a b k v (b + i) (by omega)) (cwV 1 hts (lw_V q956 q958 qs30 q96 q959) rfl rfl rfl (by decide +kernel) ⟨Nat.le_of_ble_eq_true rfl, Nat.le_of_ble_eq_true rfl⟩) hI hK (hw.recv hI hK (cf_reader) rfl) rfl hl.1 rfl (Nat.le_of_ble_eq_true rfl) dX2_isKey_67 ⟨Nat.le_of_ble_eq_true rfl, Nat.le_of_ble_eq_true rfl⟩) ?_
                refine lv_icmp_ne (tgt := 77) hx hb dX2_isKey_70 (by decide) (fun c_70 => ?_) (fun c_70 => ?_)
                · skip
                  refine lv_iconst (v := 0) hx hb dX2_isKey_77 (by decide) ?_
                  refine lv_istore_n (lv' := [(3, .int 0), (0, .ref (L 46)), (1, .int (nI q)), (2, .int (nI len)), (4, .int (nI i))]) hx hb dX2_isKey_78 rfl hl (by decide) rfl (fun ls hl => ?_)
                  refine lv_iinc (v := (nI (i + 1))) (lv' := [(4, .int (nI (i + 1))), (3, .int 0), (0, .ref (L 46)), (1, .int (nI q)), (2, .int (nI len))]) hx hb dX2_isKey_79 hl (k := 4) rfl (nI_1 _) (by decide) rfl (fun ls hl => ?_)
                  refine lv_goto (tgt := 37) hx hb dX2_isKey_82 (by decide) ?_
                  exact ih37 (i + 1) (by omega) (by omega) _ (by rw [itr_s]; first | exact (ky_s1 c_44 (c_70.trans (by_le hrt hrN (hlt _ (by omega) (by omega))))).symm | exact (ky_s0 c_44 (fun z => c_70 (z.trans (by_le hrt hrN (hlt _ (by omega) (by omega))).symm))).symm) _ (rfl) _ _ hI hS ls (lv_sub hl [2, 3, 4, 1, 0] rfl)
                · skip
                  refine lv_iconst (v := 1) hx hb dX2_isKey_73 (by decide) ?_
                  refine lv_goto (tgt := 78) hx hb dX2_isKey_74 (by decide) ?_
                  refine lv_istore_n (lv' := [(3, .int 1), (0, .ref (L 46)), (1, .int (nI q)), (2, .int (nI len)), (4, .int (nI i))]) hx hb dX2_isKey_78 rfl hl (by decide) rfl (fun ls hl => ?_)
                  refine lv_iinc (v := (nI (i + 1))) (lv' := [(4, .int (nI (i + 1))), (3, .int 1), (0, .ref (L 46)), (1, .int (nI q)), (2, .int (nI len))]) hx hb dX2_isKey_79 hl (k := 4) rfl (nI_1 _) (by decide) rfl (fun ls hl => ?_)
                  refine lv_goto (tgt := 37) hx hb dX2_isKey_82 (by decide) ?_
                  exact ih37 (i + 1) (by omega) (by omega) _ (by rw [itr_s]; first | exact (ky_s1 c_44 (c_70.trans (by_le hrt hrN (hlt _ (by omega) (by omega))))).symm | exact (ky_s0 c_44 (fun z => c_70 (z.trans (by_le hrt hrN (hlt _ (by omega) (by omega))).symm))).symm) _ (rfl) _ _ hI hS ls (lv_sub hl [2, 3, 4, 1, 0] rfl)
        exact lp37 (_ + 1) (0) (by omega) (Nat.lt_succ_self _) _ (by show _ = ky0 len q; first | exact (ky0_8 (by omega)).symm | (rw [show len = 7 by omega]; rfl) | exact (ky0_1 (by omega) c_25).symm | exact (ky0_0 (by omega) c_25).symm) _ (rfl) _ _ hI hS ls (lv_sub hl [2, 3, 4, 1, 0] rfl)
theorem k_X2_word {l : Launch} {D : va_G} {L : Nat → Nat} {A : Nat → Prop} {σ : Nat × Nat × Value} (x : cst) (n : Nat) (hR : rOk x n) (hσ : σ.2.2 = .null ∨ ∃ a, σ.2.2 = .ref a) (w : wd) (a k v : Nat) (hs : psW n (w, a, a, k, v)) : MetX l yX2_word (ws_ yX2_word cX2_word 2 none) ({ frames := 5, cells := 0, slots := 0, locals := 109 } : Room) (va_Pc [.ref (L 46)] (pS D (cfC D L (rdX x (w, a, a, k, v))) A σ)) (pQ D L (rdX x (w, a, a, k, v)) A (vR x (wordP (x.2.1 2) n (w, a, a, k, v)))) A := by
  refine met_XS (by decide) rfl (Nat.le_of_ble_eq_true rfl) ?_
  intro p e s m below meth c ls hx hb hr hml hown hts hlocks hl hI hK hSS hout
  have F : CallFix p m c cX2_word 2 s _ lw_all RX2 := ⟨hx, hb, hml, hown, hts⟩
  have hl : lv_has ls 2 [(0, .ref (L 46))] := hl
  have hS : va_S A s.heap s.heap [] := va_S.rf
  obtain ⟨hrn, hrN, hrt⟩ := id hR
  obtain ⟨ho0, ha0⟩ : wOk w ∧ a ≤ n := ⟨hs.1, hs.2⟩
  have lp0 : ∀ (fuel : Nat) (j : Nat), (a ≤ j) → (j ≤ n) → (∀ i, a ≤ i → i < j → ltB (x.2.1 2) n i = true) → n - j < fuel → ∀ (H : Heap) (locs : List Loc), hw D (cfC D L (rdX x (w, j, a, k, v))) A H → va_S A s.heap H locs → ∀ (ls : Array Slot), lv_has ls 2 [(0, .ref (L 46))] → W p l e ({ frames := 5, cells := 0, slots := 0, locals := 109 } : Room) s m ([.ref (L 46)] : List Value).toArray below meth c H locs 0 0 (MQX below (pQ D L (rdX x (w, a, a, k, v)) A (vR x (wordP (x.2.1 2) n (w, a, a, k, v)))) ([.ref (L 46)] : List Value).toArray s A) (F0 m 0 ls []) := by
    intro fuel
    induction fuel with
    | zero => intro j hj1 hj2 hj3 hf; exact absurd hf (Nat.not_lt_zero _)
    | succ fuel ih0 =>
      intro j hj1 hj2 hj3 hf0 H locs hI hS ls hl
      refine lv_aload_n hx hb dX2_word_0 rfl (lv_at hl 0 rfl) ?_
      refine lv_aload_n hx hb dX2_word_1 rfl (lv_at hl 0 rfl) ?_
      refine r_get (v := .int (nI j)) (C := RX2) (T := TX2) (N := 8) hx hb hts in_X2 hown hK hI (cf_reader) rfl 4 (by decide) (hts _ q265) (fun _ h => h) (rdv (rd_1 x w j a k v)) dX2_word_2 ?_
      refine c_r (k_V (As := [.int (nI j)]) (rest := []) F (k_X2_byteAt x n hR w j a k v j (by omega)) (cwV 1 hts (lw_V q956 q958 qs30 q96 q959) rfl rfl rfl (by decide +kernel) ⟨Nat.le_of_ble_eq_true rfl, Nat.le_of_ble_eq_true rfl⟩) hI hK (hw.recv hI hK (cf_reader) rfl) rfl hl.1 rfl (Nat.le_of_ble_eq_true rfl) dX2_word_5 ⟨Nat.le_of_ble_eq_true rfl, Nat.le_of_ble_eq_true rfl⟩) ?_
      refine c_r (k_SI (As := [.int (byC (x.2.1 2) n j)]) (rest := []) F (k_X2_isLetter (rdX x (w, j, a, k, v)) (byC (x.2.1 2) n j)) (va_cwS 1 hts (lw_S q960 q961 q96 q962) rfl rfl rfl (by decide +kernel) ⟨Nat.le_of_ble_eq_true rfl, Nat.le_of_ble_eq_true rfl⟩) hI hK rfl hl.1 rfl (Nat.le_of_ble_eq_true rfl) dX2_word_8 ⟨Nat.le_of_ble_eq_true rfl, Nat.le_of_ble_eq_true rfl⟩) ?_
      refine lv_if_eq (tgt := 27) hx hb dX2_word_11 (by decide) (fun c_11 => ?_) (fun c_11 => ?_)
      · skip
        have hsk : skB (ltB (x.2.1 2) n) a = j := sk_uq hj1 (by omega) hj3 ((by_lt hrt hrN).mp c_11)
        refine lv_iconst (v := 0) hx hb dX2_word_27 (by decide) ?_
        refine lv_istore_n (lv' := [(1, .int 0), (0, .ref (L 46))]) hx hb dX2_word_28 rfl hl (by decide) rfl (fun ls hl => ?_)
        have lp29 : ∀ (fuel : Nat) (i : Nat), (i ≤ 13) → (∀ q, q < i → kyI (x.2.1 2) a (j - a) q = 0) → 13 - i < fuel → ∀ (v1 : Int32), v1 = nI i → ∀ (H : Heap) (locs : List Loc), hw D (cfC D L (rdX x (w, j, a, k, v))) A H → va_S A s.heap H locs → ∀ (ls : Array Slot), lv_has ls 2 [(0, .ref (L 46)), (1, .int v1)] → W p l e ({ frames := 5, cells := 0, slots := 0, locals := 109 } : Room) s m ([.ref (L 46)] : List Value).toArray below meth c H locs 0 0 (MQX below (pQ D L (rdX x (w, a, a, k, v)) A (vR x (wordP (x.2.1 2) n (w, a, a, k, v)))) ([.ref (L 46)] : List Value).toArray s A) (F0 m 29 ls []) := by
          intro fuel
          induction fuel with
          | zero => intro i hi1 hi2 hf; exact absurd hf (Nat.not_lt_zero _)
          | succ fuel ih29 =>
            intro i hi1 hi2 hf29 v1 e1 H locs hI hS ls hl
            subst e1
            refine lv_iload_n hx hb dX2_word_29 rfl (lv_at hl 1 rfl) ?_
            refine lv_bipush (v := 13) hx hb dX2_word_30 (by decide) ?_
            refine lv_icmp_ge (tgt := 58) hx hb dX2_word_32 (by decide) (fun c_32 => ?_) (fun c_32 => ?_)
            · skip
              have c_32 : 13 ≤ i := (nle (a := 13) (b := i) (rfl) (rfl) (by omega) (by omega)).mp c_32
              refine lv_aload_n hx hb dX2_word_58 rfl (lv_at hl 0 rfl) ?_
              refine lv_iload_n hx hb dX2_word_59 rfl (lv_at hl 1 rfl) ?_
              refine lv_bipush (v := 13) hx hb dX2_word_60 (by decide) ?_
              refine lv_icmp_ge (tgt := 69) hx hb dX2_word_62 (by decide) (fun c_62 => ?_) (fun c_62 => ?_)
              · skip
                have c_62 : 13 ≤ i := (nle (a := 13) (b := i) (rfl) (rfl) (by omega) (by omega)).mp c_62
                refine lv_iconst (v := 0) hx hb dX2_word_69 (by decide) ?_
                exact x_thrP (k_XP (n := 1) (As := [.int 0]) (rest := []) F (k_X2_need_0 x n hR hσ w j a k v) ⟨rfl, rfl⟩ ⟨Nat.le_of_ble_eq_true rfl, Nat.le_of_ble_eq_true rfl⟩ q1013 q1015 qs33 q96 q1016 (by decide +kernel) hI hK hSS hS (hw.recv hI hK (cf_reader) rfl) rfl hl.1 rfl (Nat.le_of_ble_eq_true rfl) dX2_word_70 ⟨Nat.le_of_ble_eq_true rfl, Nat.le_of_ble_eq_true rfl⟩) rfl hS hlocks hout (jk_rd _ _ _) (by first | (rw [wo_no hsk (fun q h => hi2 q (by omega))]; rfl) | (exfalso; omega))
              · skip
                have c_62 : ¬ 13 ≤ i := fun z => c_62 ((nle (a := 13) (b := i) (rfl) (rfl) (by omega) (by omega)).mpr z)
                refine lv_iconst (v := 1) hx hb dX2_word_65 (by decide) ?_
                refine lv_goto (tgt := 70) hx hb dX2_word_66 (by decide) ?_
                refine c_m (k_V (As := [.int 1]) (rest := []) F (k_X2_need_1 x n hR w j a k v) (cwV 1 hts (lw_V q1013 q1015 qs33 q96 q1016) rfl rfl rfl (by decide +kernel) ⟨Nat.le_of_ble_eq_true rfl, Nat.le_of_ble_eq_true rfl⟩) hI hK (hw.recv hI hK (cf_reader) rfl) rfl hl.1 rfl (Nat.le_of_ble_eq_true rfl) dX2_word_70 ⟨Nat.le_of_ble_eq_true rfl, Nat.le_of_ble_eq_true rfl⟩) hS (fun H1 locs1 hI hS => ?_)
                refine lv_aload_n hx hb dX2_word_73 rfl (lv_at hl 0 rfl) ?_
                refine lv_iconst (v := 2) hx hb dX2_word_74 (by decide) ?_
                refine r_put (C := RX2) (T := TX2) (N := 8) (cf' := cfC D L (xr (rdX x (w, j, a, k, v)) 1 3 (nI 2))) hx hb hts in_X2 tyX2 tyX2_ok nmX2 hown hK hI hS (cf_reader) rfl 6 (by decide) (hts _ q268) (fun _ h => h) rfl (ty := .int) (by decide +kernel) rfl rfl (Nat.le_of_ble_eq_true rfl) (cs_reader rfl) dX2_word_75 (fun H1 locs1 hI hS => ?_)
                rw [rd_s3] at hI
                refine lv_aload_n hx hb dX2_word_78 rfl (lv_at hl 0 rfl) ?_
                refine lv_iload_n hx hb dX2_word_79 rfl (lv_at hl 1 rfl) ?_
                refine r_put (C := RX2) (T := TX2) (N := 8) (cf' := cfC D L (xr (rdX x (w, j, a, 2, v)) 1 4 (nI i))) hx hb hts in_X2 tyX2 tyX2_ok nmX2 hown hK hI hS (cf_reader) rfl 7 (by decide) (hts _ q269) (fun _ h => h) rfl (ty := .int) (by decide +kernel) rfl rfl (Nat.le_of_ble_eq_true rfl) (cs_reader rfl) dX2_word_80 (fun H1 locs1 hI hS => ?_)
                rw [rd_s4] at hI
                exact W_mono MQ_X (W.vret hx hb hr (fun t ht _ => pq_ret (by first | (rw [wo_at hsk (by omega) hi2 c_49]; rfl) | (exfalso; omega)) rfl (by rw [ht]; exact hI) (hS.F ht)) hS.2.2 dX2_word_83)
            · skip
              have c_32 : ¬ 13 ≤ i := fun z => c_32 ((nle (a := 13) (b := i) (rfl) (rfl) (by omega) (by omega)).mpr z)
              refine lv_aload_n hx hb dX2_word_35 rfl (lv_at hl 0 rfl) ?_
              refine lv_iload_n hx hb dX2_word_36 rfl (lv_at hl 1 rfl) ?_
              refine lv_aload_n hx hb dX2_word_37 rfl (lv_at hl 0 rfl) ?_
              refine r_get (v := .int (nI j)) (C := RX2) (T := TX2) (N := 8) hx hb hts in_X2 hown hK hI (cf_reader) rfl 4 (by decide) (hts _ q265) (fun _ h => h) (rdv (rd_1 x w j a k v)) dX2_word_38 ?_
              refine lv_aload_n hx hb dX2_word_41 rfl (lv_at hl 0 rfl) ?_
              refine r_get (v := .int (nI a)) (C := RX2) (T := TX2) (N := 8) hx hb hts in_X2 hown hK hI (cf_reader) rfl 5 (by decide) (hts _ q266) (fun _ h => h) (rdv (rd_2 x w j a k v)) dX2_word_42 ?_
              refine lv_isub hx hb dX2_word_45 ?_
              rw [nI_suba hj1]
              refine c_m (k_VS (As := [.int (nI i), .int (nI (j - a))]) (rest := []) F (k_X2_isKey x n hR hσ w j a k v i (j - a) (by omega) (by omega) (fun q h1 h2 => hj3 q h1 (by omega))) (cwV 2 hts (lw_V q968 q970 qs32 q96 q971) rfl rfl rfl (by decide +kernel) ⟨Nat.le_of_ble_eq_true rfl, Nat.le_of_ble_eq_true rfl⟩) hI hK hSS hS (hw.recv hI hK (cf_reader) rfl) rfl hl.1 rfl (Nat.le_of_ble_eq_true rfl) dX2_word_46 ⟨Nat.le_of_ble_eq_true rfl, Nat.le_of_ble_eq_true rfl⟩) hS (fun H1 locs1 hI hS => ?_)
              refine lv_if_ne (tgt := 58) hx hb dX2_word_49 (by decide) (fun c_49 => ?_) (fun c_49 => ?_)
              · skip
                refine lv_aload_n hx hb dX2_word_58 rfl (lv_at hl 0 rfl) ?_
                refine lv_iload_n hx hb dX2_word_59 rfl (lv_at hl 1 rfl) ?_
                refine lv_bipush (v := 13) hx hb dX2_word_60 (by decide) ?_
                refine lv_icmp_ge (tgt := 69) hx hb dX2_word_62 (by decide) (fun c_62 => ?_) (fun c_62 => ?_)
                · skip
                  have c_62 : 13 ≤ i := (nle (a := 13) (b := i) (rfl) (rfl) (by omega) (by omega)).mp c_62
                  refine lv_iconst (v := 0) hx hb dX2_word_69 (by decide) ?_
                  exact x_thrP (k_XP (n := 1) (As := [.int 0]) (rest := []) F (k_X2_need_0 x n hR hσ w j a k v) ⟨rfl, rfl⟩ ⟨Nat.le_of_ble_eq_true rfl, Nat.le_of_ble_eq_true rfl⟩ q1013 q1015 qs33 q96 q1016 (by decide +kernel) hI hK hSS hS (hw.recv hI hK (cf_reader) rfl) rfl hl.1 rfl (Nat.le_of_ble_eq_true rfl) dX2_word_70 ⟨Nat.le_of_ble_eq_true rfl, Nat.le_of_ble_eq_true rfl⟩) rfl hS hlocks hout (jk_rd _ _ _) (by first | (rw [wo_no hsk (fun q h => hi2 q (by omega))]; rfl) | (exfalso; omega))
                · skip
                  have c_62 : ¬ 13 ≤ i := fun z => c_62 ((nle (a := 13) (b := i) (rfl) (rfl) (by omega) (by omega)).mpr z)
                  refine lv_iconst (v := 1) hx hb dX2_word_65 (by decide) ?_
                  refine lv_goto (tgt := 70) hx hb dX2_word_66 (by decide) ?_
                  refine c_m (k_V (As := [.int 1]) (rest := []) F (k_X2_need_1 x n hR w j a k v) (cwV 1 hts (lw_V q1013 q1015 qs33 q96 q1016) rfl rfl rfl (by decide +kernel) ⟨Nat.le_of_ble_eq_true rfl, Nat.le_of_ble_eq_true rfl⟩) hI hK (hw.recv hI hK (cf_reader) rfl) rfl hl.1 rfl (Nat.le_of_ble_eq_true rfl) dX2_word_70 ⟨Nat.le_of_ble_eq_true rfl, Nat.le_of_ble_eq_true rfl⟩) hS (fun H1 locs1 hI hS => ?_)
                  refine lv_aload_n hx hb dX2_word_73 rfl (lv_at hl 0 rfl) ?_
                  refine lv_iconst (v := 2) hx hb dX2_word_74 (by decide) ?_
                  refine r_put (C := RX2) (T := TX2) (N := 8) (cf' := cfC D L (xr (rdX x (w, j, a, k, v)) 1 3 (nI 2))) hx hb hts in_X2 tyX2 tyX2_ok nmX2 hown hK hI hS (cf_reader) rfl 6 (by decide) (hts _ q268) (fun _ h => h) rfl (ty := .int) (by decide +kernel) rfl rfl (Nat.le_of_ble_eq_true rfl) (cs_reader rfl) dX2_word_75 (fun H1 locs1 hI hS => ?_)
                  rw [rd_s3] at hI
                  refine lv_aload_n hx hb dX2_word_78 rfl (lv_at hl 0 rfl) ?_
                  refine lv_iload_n hx hb dX2_word_79 rfl (lv_at hl 1 rfl) ?_
                  refine r_put (C := RX2) (T := TX2) (N := 8) (cf' := cfC D L (xr (rdX x (w, j, a, 2, v)) 1 4 (nI i))) hx hb hts in_X2 tyX2 tyX2_ok nmX2 hown hK hI hS (cf_reader) rfl 7 (by decide) (hts _ q269) (fun _ h => h) rfl (ty := .int) (by decide +kernel) rfl rfl (Nat.le_of_ble_eq_true rfl) (cs_reader rfl) dX2_word_80 (fun H1 locs1 hI hS => ?_)
                  rw [rd_s4] at hI
                  exact W_mono MQ_X (W.vret hx hb hr (fun t ht _ => pq_ret (by first | (rw [wo_at hsk (by omega) hi2 c_49]; rfl) | (exfalso; omega)) rfl (by rw [ht]; exact hI) (hS.F ht)) hS.2.2 dX2_word_83)
              · skip
                refine lv_iinc (v := (nI (i + 1))) (lv' := [(1, .int (nI (i + 1))), (0, .ref (L 46))]) hx hb dX2_word_52 hl (k := 1) rfl (nI_1 _) (by decide) rfl (fun ls hl => ?_)
                refine lv_goto (tgt := 29) hx hb dX2_word_55 (by decide) ?_
                exact ih29 (i + 1) (by omega) (fun q h => by by_cases e9 : q = i; exact e9 ▸ c_49; exact hi2 q (by omega)) (by omega) _ (rfl) _ _ hI hS ls (lv_sub hl [1, 0] rfl)
        exact lp29 (_ + 1) (0) (by omega) (fun q h => by omega) (Nat.lt_succ_self _) _ (rfl) _ _ hI hS ls (lv_sub hl [1, 0] rfl)
      · skip
        have hb1 : ltB (x.2.1 2) n j = true := bt (fun z => c_11 ((by_lt hrt hrN).mpr z))
        have hb2 := ltB_lt j hb1
        refine lv_aload_n hx hb dX2_word_14 rfl (lv_at hl 0 rfl) ?_
        refine lv_dup hx hb dX2_word_15 rfl ?_
        refine r_get (v := .int (nI j)) (C := RX2) (T := TX2) (N := 8) hx hb hts in_X2 hown hK hI (cf_reader) rfl 4 (by decide) (hts _ q265) (fun _ h => h) (rdv (rd_1 x w j a k v)) dX2_word_16 ?_
        refine lv_iconst (v := 1) hx hb dX2_word_19 (by decide) ?_
        refine lv_iadd hx hb dX2_word_20 ?_
        rw [show ((nI j) + (1 : Int32)) = nI (j + 1) from na_add (rfl) (rfl)]
        refine r_put (C := RX2) (T := TX2) (N := 8) (cf' := cfC D L (xr (rdX x (w, j, a, k, v)) 1 1 (nI (j + 1)))) hx hb hts in_X2 tyX2 tyX2_ok nmX2 hown hK hI hS (cf_reader) rfl 4 (by decide) (hts _ q265) (fun _ h => h) rfl (ty := .int) (by decide +kernel) rfl rfl (Nat.le_of_ble_eq_true rfl) (cs_reader rfl) dX2_word_21 (fun H1 locs1 hI hS => ?_)
        rw [rd_s1] at hI
        refine lv_goto (tgt := 0) hx hb dX2_word_24 (by decide) ?_
        exact ih0 (j + 1) (by omega) (by omega) (fun i h1 h2 => by by_cases e9 : i = j; exact e9 ▸ hb1; exact hj3 i h1 (by omega)) (by omega) _ _ hI hS ls (lv_sub hl [0] rfl)
  exact lp0 (_ + 1) (a) (Nat.le_refl _) (ha0) (fun i h1 h2 => by omega) (Nat.lt_succ_self _) _ _ hI hS ls (lv_sub hl [0] rfl)
theorem k_X2_digits {l : Launch} {D : va_G} {L : Nat → Nat} {A : Nat → Prop} {σ : Nat × Nat × Value} (x : cst) (n : Nat) (hR : rOk x n) (hσ : σ.2.2 = .null ∨ ∃ a, σ.2.2 = .ref a) (w : wd) (a b k v : Nat) (hs : psW n (w, a, b, k, v)) : MetX l yX2_digits (ws_ yX2_digits cX2_digits 2 none) ({ frames := 2, cells := 0, slots := 0, locals := 42 } : Room) (va_Pc [.ref (L 46)] (pS D (cfC D L (rdX x (w, a, b, k, v))) A σ)) (pQ D L (rdX x (w, a, b, k, v)) A (vR x (digP (x.2.1 2) n (w, a, b, k, v)))) A := by
  refine met_XS (by decide) rfl (Nat.le_of_ble_eq_true rfl) ?_
  intro p e s m below meth c ls hx hb hr hml hown hts hlocks hl hI hK hSS hout
  have F : CallFix p m c cX2_digits 2 s _ lw_all RX2 := ⟨hx, hb, hml, hown, hts⟩
  have hl : lv_has ls 2 [(0, .ref (L 46))] := hl
  have hS : va_S A s.heap s.heap [] := va_S.rf
  obtain ⟨hrn, hrN, hrt⟩ := id hR
  obtain ⟨ho0, ha0⟩ : wOk w ∧ a ≤ n := ⟨hs.1, hs.2⟩
  refine lv_iconst (v := 0) hx hb dX2_digits_0 (by decide) ?_
  refine lv_istore_n (lv' := [(1, .int 0), (0, .ref (L 46))]) hx hb dX2_digits_1 rfl hl (by decide) rfl (fun ls hl => ?_)
  have lp2 : ∀ (fuel : Nat) (i : Nat), (a + i ≤ n) → (∀ j, a ≤ j → j < a + i → dgB (x.2.1 2) n j = true) → n - (a + i) < fuel → ∀ (v1 : Int32), v1 = nI (numV (x.2.1 2) a i) → ∀ (H : Heap) (locs : List Loc), hw D (cfC D L (rdX x (w, a + i, b, k, v))) A H → va_S A s.heap H locs → ∀ (ls : Array Slot), lv_has ls 2 [(0, .ref (L 46)), (1, .int v1)] → W p l e ({ frames := 2, cells := 0, slots := 0, locals := 42 } : Room) s m ([.ref (L 46)] : List Value).toArray below meth c H locs 0 0 (MQX below (pQ D L (rdX x (w, a, b, k, v)) A (vR x (digP (x.2.1 2) n (w, a, b, k, v)))) ([.ref (L 46)] : List Value).toArray s A) (F0 m 2 ls []) := by
    intro fuel
    induction fuel with
    | zero => intro i hi1 hi3 hf; exact absurd hf (Nat.not_lt_zero _)
    | succ fuel ih2 =>
      intro i hi1 hi3 hf2 v1 e1 H locs hI hS ls hl
      subst e1
      have hnv := nu_at (hN := hrN) hrt hi3
      refine lv_aload_n hx hb dX2_digits_2 rfl (lv_at hl 0 rfl) ?_
      refine lv_aload_n hx hb dX2_digits_3 rfl (lv_at hl 0 rfl) ?_
      refine r_get (v := .int (nI (a + i))) (C := RX2) (T := TX2) (N := 8) hx hb hts in_X2 hown hK hI (cf_reader) rfl 4 (by decide) (hts _ q265) (fun _ h => h) (rdv (rd_1 x w (a + i) b k v)) dX2_digits_4 ?_
      refine c_r (k_V (As := [.int (nI (a + i))]) (rest := []) F (k_X2_byteAt x n hR w (a + i) b k v (a + i) (by omega)) (cwV 1 hts (lw_V q956 q958 qs30 q96 q959) rfl rfl rfl (by decide +kernel) ⟨Nat.le_of_ble_eq_true rfl, Nat.le_of_ble_eq_true rfl⟩) hI hK (hw.recv hI hK (cf_reader) rfl) rfl hl.1 rfl (Nat.le_of_ble_eq_true rfl) dX2_digits_7 ⟨Nat.le_of_ble_eq_true rfl, Nat.le_of_ble_eq_true rfl⟩) ?_
      refine c_r (k_SI (As := [.int (byC (x.2.1 2) n (a + i))]) (rest := []) F (k_X2_isDigit (rdX x (w, a + i, b, k, v)) (byC (x.2.1 2) n (a + i))) (va_cwS 1 hts (lw_S q1017 q1018 q96 q1019) rfl rfl rfl (by decide +kernel) ⟨Nat.le_of_ble_eq_true rfl, Nat.le_of_ble_eq_true rfl⟩) hI hK rfl hl.1 rfl (Nat.le_of_ble_eq_true rfl) dX2_digits_10 ⟨Nat.le_of_ble_eq_true rfl, Nat.le_of_ble_eq_true rfl⟩) ?_
      refine lv_if_eq (tgt := 56) hx hb dX2_digits_13 (by decide) (fun c_13 => ?_) (fun c_13 => ?_)
      · skip
        have hsk : skB (dgB (x.2.1 2) n) a = a + i := sk_uq (by omega) (by omega) hi3 ((by_dg hrt hrN).mp c_13)
        refine lv_aload_n hx hb dX2_digits_56 rfl (lv_at hl 0 rfl) ?_
        refine lv_iconst (v := 1) hx hb dX2_digits_57 (by decide) ?_
        refine r_put (C := RX2) (T := TX2) (N := 8) (cf' := cfC D L (xr (rdX x (w, a + i, b, k, v)) 1 3 (nI 1))) hx hb hts in_X2 tyX2 tyX2_ok nmX2 hown hK hI hS (cf_reader) rfl 6 (by decide) (hts _ q268) (fun _ h => h) rfl (ty := .int) (by decide +kernel) rfl rfl (Nat.le_of_ble_eq_true rfl) (cs_reader rfl) dX2_digits_58 (fun H1 locs1 hI hS => ?_)
        rw [rd_s3] at hI
        refine lv_aload_n hx hb dX2_digits_61 rfl (lv_at hl 0 rfl) ?_
        refine lv_iload_n hx hb dX2_digits_62 rfl (lv_at hl 1 rfl) ?_
        refine r_put (C := RX2) (T := TX2) (N := 8) (cf' := cfC D L (xr (rdX x (w, a + i, b, 1, v)) 1 4 (nI (numV (x.2.1 2) a i)))) hx hb hts in_X2 tyX2 tyX2_ok nmX2 hown hK hI hS (cf_reader) rfl 7 (by decide) (hts _ q269) (fun _ h => h) rfl (ty := .int) (by decide +kernel) rfl rfl (Nat.le_of_ble_eq_true rfl) (cs_reader rfl) dX2_digits_63 (fun H1 locs1 hI hS => ?_)
        rw [rd_s4] at hI
        refine lv_aload_n hx hb dX2_digits_66 rfl (lv_at hl 0 rfl) ?_
        refine lv_iload_n hx hb dX2_digits_67 rfl (lv_at hl 1 rfl) ?_
        refine lv_ldc (v := 99999) hx hb hown (hts _ q1024) dX2_digits_68 ?_
        refine lv_icmp_gt (tgt := 77) hx hb dX2_digits_70 (by decide) (fun c_70 => ?_) (fun c_70 => ?_)
        · skip
          have c_70 : 99999 < numV (x.2.1 2) a i := (nlt (a := 99999) (b := numV (x.2.1 2) a i) (rfl) (rfl) (by omega) (by omega)).mp c_70
          refine lv_iconst (v := 0) hx hb dX2_digits_77 (by decide) ?_
          exact x_thrP (k_XP (n := 1) (As := [.int 0]) (rest := []) F (k_X2_need_0 x n hR hσ w (a + i) b 1 (numV (x.2.1 2) a i)) ⟨rfl, rfl⟩ ⟨Nat.le_of_ble_eq_true rfl, Nat.le_of_ble_eq_true rfl⟩ q1013 q1015 qs33 q96 q1016 (by decide +kernel) hI hK hSS hS (hw.recv hI hK (cf_reader) rfl) rfl hl.1 rfl (Nat.le_of_ble_eq_true rfl) dX2_digits_78 ⟨Nat.le_of_ble_eq_true rfl, Nat.le_of_ble_eq_true rfl⟩) rfl hS hlocks hout (jk_rd _ _ _) (by rw [di_no hsk (by omega)]; rfl)
        · skip
          have c_70 : ¬ 99999 < numV (x.2.1 2) a i := fun z => c_70 ((nlt (a := 99999) (b := numV (x.2.1 2) a i) (rfl) (rfl) (by omega) (by omega)).mpr z)
          refine lv_iconst (v := 1) hx hb dX2_digits_73 (by decide) ?_
          refine lv_goto (tgt := 78) hx hb dX2_digits_74 (by decide) ?_
          refine c_m (k_V (As := [.int 1]) (rest := []) F (k_X2_need_1 x n hR w (a + i) b 1 (numV (x.2.1 2) a i)) (cwV 1 hts (lw_V q1013 q1015 qs33 q96 q1016) rfl rfl rfl (by decide +kernel) ⟨Nat.le_of_ble_eq_true rfl, Nat.le_of_ble_eq_true rfl⟩) hI hK (hw.recv hI hK (cf_reader) rfl) rfl hl.1 rfl (Nat.le_of_ble_eq_true rfl) dX2_digits_78 ⟨Nat.le_of_ble_eq_true rfl, Nat.le_of_ble_eq_true rfl⟩) hS (fun H1 locs1 hI hS => ?_)
          exact W_mono MQ_X (W.vret hx hb hr (fun t ht _ => pq_ret (by rw [di_ok hsk (by omega)]; rfl) rfl (by rw [ht]; exact hI) (hS.F ht)) hS.2.2 dX2_digits_81)
      · skip
        have hb1 : dgB (x.2.1 2) n (a + i) = true := bt (fun z => c_13 ((by_dg hrt hrN).mpr z))
        have hb2 := dgB_lt (a + i) hb1
        refine lv_iload_n hx hb dX2_digits_16 rfl (lv_at hl 1 rfl) ?_
        refine lv_ldc (v := 99999) hx hb hown (hts _ q1024) dX2_digits_17 ?_
        refine lv_icmp_le (tgt := 26) hx hb dX2_digits_19 (by decide) (fun c_19 => ?_) (fun c_19 => ?_)
        · skip
          have c_19 : numV (x.2.1 2) a i ≤ 99999 := (nle (a := numV (x.2.1 2) a i) (b := 99999) (rfl) (rfl) (by omega) (by omega)).mp c_19
          refine lv_bipush (v := 10) hx hb dX2_digits_26 (by decide) ?_
          refine lv_iload_n hx hb dX2_digits_28 rfl (lv_at hl 1 rfl) ?_
          refine lv_imul hx hb dX2_digits_29 ?_
          refine lv_aload_n hx hb dX2_digits_30 rfl (lv_at hl 0 rfl) ?_
          refine lv_aload_n hx hb dX2_digits_31 rfl (lv_at hl 0 rfl) ?_
          refine r_get (v := .int (nI (a + i))) (C := RX2) (T := TX2) (N := 8) hx hb hts in_X2 hown hK hI (cf_reader) rfl 4 (by decide) (hts _ q265) (fun _ h => h) (rdv (rd_1 x w (a + i) b k v)) dX2_digits_32 ?_
          refine c_r (k_V (As := [.int (nI (a + i))]) (rest := [.int ((10 : Int32) * (nI (numV (x.2.1 2) a i)))]) F (k_X2_byteAt x n hR w (a + i) b k v (a + i) (by omega)) (cwV 1 hts (lw_V q956 q958 qs30 q96 q959) rfl rfl rfl (by decide +kernel) ⟨Nat.le_of_ble_eq_true rfl, Nat.le_of_ble_eq_true rfl⟩) hI hK (hw.recv hI hK (cf_reader) rfl) rfl hl.1 rfl (Nat.le_of_ble_eq_true rfl) dX2_digits_35 ⟨Nat.le_of_ble_eq_true rfl, Nat.le_of_ble_eq_true rfl⟩) ?_
          refine lv_iadd hx hb dX2_digits_38 ?_
          refine lv_bipush (v := 48) hx hb dX2_digits_39 (by decide) ?_
          refine lv_isub hx hb dX2_digits_41 ?_
          refine lv_istore_n (lv' := [(1, .int ((((10 : Int32) * (nI (numV (x.2.1 2) a i))) + (byC (x.2.1 2) n (a + i))) - (48 : Int32))), (0, .ref (L 46))]) hx hb dX2_digits_42 rfl hl (by decide) rfl (fun ls hl => ?_)
          refine lv_aload_n hx hb dX2_digits_43 rfl (lv_at hl 1 rfl) ?_
          refine lv_dup hx hb dX2_digits_44 rfl ?_
          refine r_get (v := .int (nI (a + i))) (C := RX2) (T := TX2) (N := 8) hx hb hts in_X2 hown hK hI (cf_reader) rfl 4 (by decide) (hts _ q265) (fun _ h => h) (rdv (rd_1 x w (a + i) b k v)) dX2_digits_45 ?_
          refine lv_iconst (v := 1) hx hb dX2_digits_48 (by decide) ?_
          refine lv_iadd hx hb dX2_digits_49 ?_
          rw [show ((nI (a + i)) + (1 : Int32)) = nI ((a + i) + 1) from na_add (rfl) (rfl)]
          refine r_put (C := RX2) (T := TX2) (N := 8) (cf' := cfC D L (xr (rdX x (w, a + i, b, k, v)) 1 1 (nI ((a + i) + 1)))) hx hb hts in_X2 tyX2 tyX2_ok nmX2 hown hK hI hS (cf_reader) rfl 4 (by decide) (hts _ q265) (fun _ h => h) rfl (ty := .int) (by decide +kernel) rfl rfl (Nat.le_of_ble_eq_true rfl) (cs_reader rfl) dX2_digits_50 (fun H1 locs1 hI hS => ?_)
          rw [rd_s1] at hI
          refine lv_goto (tgt := 2) hx hb dX2_digits_53 (by decide) ?_
          exact ih2 (i + 1) (by omega) (fun j h1 h2 => by by_cases e9 : j = a + i; exact e9 ▸ hb1; exact hi3 j h1 (by omega)) (by omega) _ (by first | rw [nu_s1 (by omega)] | (rw [nu_s0 (by omega)]; exact nu_v hrN hrt hb1)) _ _ hI hS ls (lv_sub hl [1, 0] rfl)
        · skip
          have c_19 : ¬ numV (x.2.1 2) a i ≤ 99999 := fun z => c_19 ((nle (a := numV (x.2.1 2) a i) (b := 99999) (rfl) (rfl) (by omega) (by omega)).mpr z)
          refine lv_iload_n hx hb dX2_digits_22 rfl (lv_at hl 1 rfl) ?_
          refine lv_goto (tgt := 42) hx hb dX2_digits_23 (by decide) ?_
          refine lv_istore_n (lv' := [(1, .int (nI (numV (x.2.1 2) a i))), (0, .ref (L 46))]) hx hb dX2_digits_42 rfl hl (by decide) rfl (fun ls hl => ?_)
          refine lv_aload_n hx hb dX2_digits_43 rfl (lv_at hl 1 rfl) ?_
          refine lv_dup hx hb dX2_digits_44 rfl ?_
          refine r_get (v := .int (nI (a + i))) (C := RX2) (T := TX2) (N := 8) hx hb hts in_X2 hown hK hI (cf_reader) rfl 4 (by decide) (hts _ q265) (fun _ h => h) (rdv (rd_1 x w (a + i) b k v)) dX2_digits_45 ?_
          refine lv_iconst (v := 1) hx hb dX2_digits_48 (by decide) ?_
          refine lv_iadd hx hb dX2_digits_49 ?_
          rw [show ((nI (a + i)) + (1 : Int32)) = nI ((a + i) + 1) from na_add (rfl) (rfl)]
          refine r_put (C := RX2) (T := TX2) (N := 8) (cf' := cfC D L (xr (rdX x (w, a + i, b, k, v)) 1 1 (nI ((a + i) + 1)))) hx hb hts in_X2 tyX2 tyX2_ok nmX2 hown hK hI hS (cf_reader) rfl 4 (by decide) (hts _ q265) (fun _ h => h) rfl (ty := .int) (by decide +kernel) rfl rfl (Nat.le_of_ble_eq_true rfl) (cs_reader rfl) dX2_digits_50 (fun H1 locs1 hI hS => ?_)
          rw [rd_s1] at hI
          refine lv_goto (tgt := 2) hx hb dX2_digits_53 (by decide) ?_
          exact ih2 (i + 1) (by omega) (fun j h1 h2 => by by_cases e9 : j = a + i; exact e9 ▸ hb1; exact hi3 j h1 (by omega)) (by omega) _ (by first | rw [nu_s1 (by omega)] | (rw [nu_s0 (by omega)]; exact nu_v hrN hrt hb1)) _ _ hI hS ls (lv_sub hl [1, 0] rfl)
  exact lp2 (_ + 1) (0) (by omega) (fun j h1 h2 => by omega) (Nat.lt_succ_self _) _ (rfl) _ _ hI hS ls (lv_sub hl [1, 0] rfl)
theorem k_X2_next {l : Launch} {D : va_G} {L : Nat → Nat} {A : Nat → Prop} {σ : Nat × Nat × Value} (x : cst) (n : Nat) (hR : rOk x n) (hσ : σ.2.2 = .null ∨ ∃ a, σ.2.2 = .ref a) (w : wd) (a b k v : Nat) (hs : psW n (w, a, b, k, v)) : MetX l yX2_next (ws_ yX2_next cX2_next 2 none) ({ frames := 6, cells := 0, slots := 0, locals := 130 } : Room) (va_Pc [.ref (L 46)] (pS D (cfC D L (rdX x (w, a, b, k, v))) A σ)) (pQ D L (rdX x (w, a, b, k, v)) A (vR x (nextP (x.2.1 2) n (w, a, b, k, v)))) A := by
  refine met_XS (by decide) rfl (Nat.le_of_ble_eq_true rfl) ?_
  intro p e s m below meth c ls hx hb hr hml hown hts hlocks hl hI hK hSS hout
  have F : CallFix p m c cX2_next 2 s _ lw_all RX2 := ⟨hx, hb, hml, hown, hts⟩
  have hl : lv_has ls 2 [(0, .ref (L 46))] := hl
  have hS : va_S A s.heap s.heap [] := va_S.rf
  obtain ⟨hrn, hrN, hrt⟩ := id hR
  obtain ⟨ho0, ha0⟩ : wOk w ∧ a ≤ n := ⟨hs.1, hs.2⟩
  have lp0 : ∀ (fuel : Nat) (j : Nat), (a ≤ j) → (j ≤ n) → (∀ i, a ≤ i → i < j → spB (x.2.1 2) n i = true) → n - j < fuel → ∀ (H : Heap) (locs : List Loc), hw D (cfC D L (rdX x (w, j, b, k, v))) A H → va_S A s.heap H locs → ∀ (ls : Array Slot), lv_has ls 2 [(0, .ref (L 46))] → W p l e ({ frames := 6, cells := 0, slots := 0, locals := 130 } : Room) s m ([.ref (L 46)] : List Value).toArray below meth c H locs 0 0 (MQX below (pQ D L (rdX x (w, a, b, k, v)) A (vR x (nextP (x.2.1 2) n (w, a, b, k, v)))) ([.ref (L 46)] : List Value).toArray s A) (F0 m 0 ls []) := by
    intro fuel
    induction fuel with
    | zero => intro j hj1 hj2 hj3 hf; exact absurd hf (Nat.not_lt_zero _)
    | succ fuel ih0 =>
      intro j hj1 hj2 hj3 hf0 H locs hI hS ls hl
      refine lv_aload_n hx hb dX2_next_0 rfl (lv_at hl 0 rfl) ?_
      refine lv_aload_n hx hb dX2_next_1 rfl (lv_at hl 0 rfl) ?_
      refine r_get (v := .int (nI j)) (C := RX2) (T := TX2) (N := 8) hx hb hts in_X2 hown hK hI (cf_reader) rfl 4 (by decide) (hts _ q265) (fun _ h => h) (rdv (rd_1 x w j b k v)) dX2_next_2 ?_
      refine c_r (k_V (As := [.int (nI j)]) (rest := []) F (k_X2_byteAt x n hR w j b k v j (by omega)) (cwV 1 hts (lw_V q956 q958 qs30 q96 q959) rfl rfl rfl (by decide +kernel) ⟨Nat.le_of_ble_eq_true rfl, Nat.le_of_ble_eq_true rfl⟩) hI hK (hw.recv hI hK (cf_reader) rfl) rfl hl.1 rfl (Nat.le_of_ble_eq_true rfl) dX2_next_5 ⟨Nat.le_of_ble_eq_true rfl, Nat.le_of_ble_eq_true rfl⟩) ?_
      refine lv_bipush (v := 32) hx hb dX2_next_8 (by decide) ?_
      refine lv_icmp_ne (tgt := 26) hx hb dX2_next_10 (by decide) (fun c_10 => ?_) (fun c_10 => ?_)
      · skip
        have hsk : skB (spB (x.2.1 2) n) a = j := sk_uq hj1 (by omega) hj3 (sp_no hrt hrN c_10)
        have hsj : psW n (w, j, j, k, v) := ⟨hs.1, hj2⟩
        refine lv_aload_n hx hb dX2_next_26 rfl (lv_at hl 0 rfl) ?_
        refine lv_aload_n hx hb dX2_next_27 rfl (lv_at hl 0 rfl) ?_
        refine r_get (v := .int (nI j)) (C := RX2) (T := TX2) (N := 8) hx hb hts in_X2 hown hK hI (cf_reader) rfl 4 (by decide) (hts _ q265) (fun _ h => h) (rdv (rd_1 x w j b k v)) dX2_next_28 ?_
        refine r_put (C := RX2) (T := TX2) (N := 8) (cf' := cfC D L (xr (rdX x (w, j, b, k, v)) 1 2 (nI j))) hx hb hts in_X2 tyX2 tyX2_ok nmX2 hown hK hI hS (cf_reader) rfl 5 (by decide) (hts _ q266) (fun _ h => h) rfl (ty := .int) (by decide +kernel) rfl rfl (Nat.le_of_ble_eq_true rfl) (cs_reader rfl) dX2_next_31 (fun H1 locs1 hI hS => ?_)
        rw [rd_s2] at hI
        refine lv_aload_n hx hb dX2_next_34 rfl (lv_at hl 0 rfl) ?_
        refine lv_aload_n hx hb dX2_next_35 rfl (lv_at hl 0 rfl) ?_
        refine r_get (v := .int (nI j)) (C := RX2) (T := TX2) (N := 8) hx hb hts in_X2 hown hK hI (cf_reader) rfl 4 (by decide) (hts _ q265) (fun _ h => h) (rdv (rd_1 x w j j k v)) dX2_next_36 ?_
        refine c_r (k_V (As := [.int (nI j)]) (rest := []) F (k_X2_byteAt x n hR w j j k v j (by omega)) (cwV 1 hts (lw_V q956 q958 qs30 q96 q959) rfl rfl rfl (by decide +kernel) ⟨Nat.le_of_ble_eq_true rfl, Nat.le_of_ble_eq_true rfl⟩) hI hK (hw.recv hI hK (cf_reader) rfl) rfl hl.1 rfl (Nat.le_of_ble_eq_true rfl) dX2_next_39 ⟨Nat.le_of_ble_eq_true rfl, Nat.le_of_ble_eq_true rfl⟩) ?_
        refine lv_istore_n (lv' := [(1, .int (byC (x.2.1 2) n j)), (0, .ref (L 46))]) hx hb dX2_next_42 rfl hl (by decide) rfl (fun ls hl => ?_)
        refine lv_iload_n hx hb dX2_next_43 rfl (lv_at hl 0 rfl) ?_
        refine lv_if_ge (tgt := 55) hx hb dX2_next_44 (by decide) (fun c_44 => ?_) (fun c_44 => ?_)
        · skip
          have c_44 := Int32.not_lt.mpr c_44
          have hnj : ¬ n ≤ j := fun z => c_44 ((by_0 hrt hrN).mpr z)
          refine lv_iload_n hx hb dX2_next_55 rfl (lv_at hl 0 rfl) ?_
          refine c_r (k_SI (As := [.int (byC (x.2.1 2) n j)]) (rest := []) F (k_X2_isLetter (rdX x (w, j, j, k, v)) (byC (x.2.1 2) n j)) (va_cwS 1 hts (lw_S q960 q961 q96 q962) rfl rfl rfl (by decide +kernel) ⟨Nat.le_of_ble_eq_true rfl, Nat.le_of_ble_eq_true rfl⟩) hI hK rfl hl.1 rfl (Nat.le_of_ble_eq_true rfl) dX2_next_56 ⟨Nat.le_of_ble_eq_true rfl, Nat.le_of_ble_eq_true rfl⟩) ?_
          refine lv_if_eq (tgt := 69) hx hb dX2_next_59 (by decide) (fun c_59 => ?_) (fun c_59 => ?_)
          · skip
            have hlt : ltB (x.2.1 2) n j = false := (by_lt hrt hrN).mp c_59
            refine lv_iload_n hx hb dX2_next_69 rfl (lv_at hl 0 rfl) ?_
            refine c_r (k_SI (As := [.int (byC (x.2.1 2) n j)]) (rest := []) F (k_X2_isDigit (rdX x (w, j, j, k, v)) (byC (x.2.1 2) n j)) (va_cwS 1 hts (lw_S q1017 q1018 q96 q1019) rfl rfl rfl (by decide +kernel) ⟨Nat.le_of_ble_eq_true rfl, Nat.le_of_ble_eq_true rfl⟩) hI hK rfl hl.1 rfl (Nat.le_of_ble_eq_true rfl) dX2_next_70 ⟨Nat.le_of_ble_eq_true rfl, Nat.le_of_ble_eq_true rfl⟩) ?_
            refine lv_if_eq (tgt := 83) hx hb dX2_next_73 (by decide) (fun c_73 => ?_) (fun c_73 => ?_)
            · skip
              have hdg : dgB (x.2.1 2) n j = false := (by_dg hrt hrN).mp c_73
              refine lv_aload_n hx hb dX2_next_83 rfl (lv_at hl 1 rfl) ?_
              refine lv_iload_n hx hb dX2_next_84 rfl (lv_at hl 0 rfl) ?_
              refine lv_bipush (v := 59) hx hb dX2_next_85 (by decide) ?_
              refine lv_icmp_ne (tgt := 94) hx hb dX2_next_87 (by decide) (fun c_87 => ?_) (fun c_87 => ?_)
              · skip
                refine lv_iconst (v := 0) hx hb dX2_next_94 (by decide) ?_
                exact x_thrP (k_XP (n := 1) (As := [.int 0]) (rest := []) F (k_X2_need_0 x n hR hσ w j j k v) ⟨rfl, rfl⟩ ⟨Nat.le_of_ble_eq_true rfl, Nat.le_of_ble_eq_true rfl⟩ q1013 q1015 qs33 q96 q1016 (by decide +kernel) hI hK hSS hS (hw.recv hI hK (cf_reader) rfl) rfl hl.1 rfl (Nat.le_of_ble_eq_true rfl) dX2_next_95 ⟨Nat.le_of_ble_eq_true rfl, Nat.le_of_ble_eq_true rfl⟩) rfl hS hlocks hout (jk_rd _ _ _) (by rw [nx_x hsk hnj hlt hdg (fun z => c_87 ((by_59 hrt hrN (by omega)).mpr z))]; rfl)
              · skip
                refine lv_iconst (v := 1) hx hb dX2_next_90 (by decide) ?_
                refine lv_goto (tgt := 95) hx hb dX2_next_91 (by decide) ?_
                refine c_m (k_V (As := [.int 1]) (rest := []) F (k_X2_need_1 x n hR w j j k v) (cwV 1 hts (lw_V q1013 q1015 qs33 q96 q1016) rfl rfl rfl (by decide +kernel) ⟨Nat.le_of_ble_eq_true rfl, Nat.le_of_ble_eq_true rfl⟩) hI hK (hw.recv hI hK (cf_reader) rfl) rfl hl.1 rfl (Nat.le_of_ble_eq_true rfl) dX2_next_95 ⟨Nat.le_of_ble_eq_true rfl, Nat.le_of_ble_eq_true rfl⟩) hS (fun H1 locs1 hI hS => ?_)
                refine lv_aload_n hx hb dX2_next_98 rfl (lv_at hl 1 rfl) ?_
                refine lv_iconst (v := 3) hx hb dX2_next_99 (by decide) ?_
                refine r_put (C := RX2) (T := TX2) (N := 8) (cf' := cfC D L (xr (rdX x (w, j, j, k, v)) 1 3 (nI 3))) hx hb hts in_X2 tyX2 tyX2_ok nmX2 hown hK hI hS (cf_reader) rfl 6 (by decide) (hts _ q268) (fun _ h => h) rfl (ty := .int) (by decide +kernel) rfl rfl (Nat.le_of_ble_eq_true rfl) (cs_reader rfl) dX2_next_100 (fun H1 locs1 hI hS => ?_)
                rw [rd_s3] at hI
                refine lv_aload_n hx hb dX2_next_103 rfl (lv_at hl 1 rfl) ?_
                refine lv_dup hx hb dX2_next_104 rfl ?_
                refine r_get (v := .int (nI j)) (C := RX2) (T := TX2) (N := 8) hx hb hts in_X2 hown hK hI (cf_reader) rfl 4 (by decide) (hts _ q265) (fun _ h => h) (rdv (rd_1 x w j j 3 v)) dX2_next_105 ?_
                refine lv_iconst (v := 1) hx hb dX2_next_108 (by decide) ?_
                refine lv_iadd hx hb dX2_next_109 ?_
                rw [show ((nI j) + (1 : Int32)) = nI (j + 1) from na_add (rfl) (rfl)]
                refine r_put (C := RX2) (T := TX2) (N := 8) (cf' := cfC D L (xr (rdX x (w, j, j, 3, v)) 1 1 (nI (j + 1)))) hx hb hts in_X2 tyX2 tyX2_ok nmX2 hown hK hI hS (cf_reader) rfl 4 (by decide) (hts _ q265) (fun _ h => h) rfl (ty := .int) (by decide +kernel) rfl rfl (Nat.le_of_ble_eq_true rfl) (cs_reader rfl) dX2_next_110 (fun H1 locs1 hI hS => ?_)
                rw [rd_s1] at hI
                exact W_mono MQ_X (W.vret hx hb hr (fun t ht _ => pq_ret (by first | (rw [nx_0 hsk hnj]; rfl) | (rw [nx_w hsk hnj hlt, ]; rfl) | (rw [nx_d hsk hnj hlt hdg, ]; rfl) | (rw [nx_s hsk hnj hlt hdg ((by_59 hrt hrN (by omega)).mp c_87)]; rfl)) rfl (by rw [ht]; exact hI) (hS.F ht)) hS.2.2 dX2_next_113)
            · skip
              have hdg : dgB (x.2.1 2) n j = true := bt (fun z => c_73 ((by_dg hrt hrN).mpr z))
              refine lv_aload_n hx hb dX2_next_76 rfl (lv_at hl 1 rfl) ?_
              rcases hq1 : digP (x.2.1 2) n (w, j, j, k, v) with bq | ⟨w1, a1, b1, k1, v1⟩
              · exact x_thrP (k_XP (n := 0) (As := []) (rest := []) F (k_X2_digits x n hR hσ w j j k v hsj) ⟨rfl, rfl⟩ ⟨Nat.le_of_ble_eq_true rfl, Nat.le_of_ble_eq_true rfl⟩ q1020 q1022 qs34 q96 q1023 (by decide +kernel) hI hK hSS hS (hw.recv hI hK (cf_reader) rfl) rfl hl.1 rfl (Nat.le_of_ble_eq_true rfl) dX2_next_77 ⟨Nat.le_of_ble_eq_true rfl, Nat.le_of_ble_eq_true rfl⟩) (by rw [hq1]; rfl) hS hlocks hout (jk_rd _ _ _) (by rw [nx_d hsk hnj hlt hdg, hq1]; rfl)
              · skip
                refine x_retP (k_XP (n := 0) (As := []) (rest := []) F (k_X2_digits x n hR hσ w j j k v hsj) ⟨rfl, rfl⟩ ⟨Nat.le_of_ble_eq_true rfl, Nat.le_of_ble_eq_true rfl⟩ q1020 q1022 qs34 q96 q1023 (by decide +kernel) hI hK hSS hS (hw.recv hI hK (cf_reader) rfl) rfl hl.1 rfl (Nat.le_of_ble_eq_true rfl) dX2_next_77 ⟨Nat.le_of_ble_eq_true rfl, Nat.le_of_ble_eq_true rfl⟩) (by rw [hq1]; rfl) hS (fun H1 locs1 hI hS => ?_)
                refine lv_goto (tgt := 113) hx hb dX2_next_80 (by decide) ?_
                exact W_mono MQ_X (W.vret hx hb hr (fun t ht _ => pq_ret (by first | (rw [nx_0 hsk hnj]; rfl) | (rw [nx_w hsk hnj hlt, hq1]; rfl) | (rw [nx_d hsk hnj hlt hdg, hq1]; rfl) | (rw [nx_s hsk hnj hlt hdg ((by_59 hrt hrN (by omega)).mp c_87)]; rfl)) rfl (by rw [ht]; exact hI) (hS.F ht)) hS.2.2 dX2_next_113)
          · skip
            have hlt : ltB (x.2.1 2) n j = true := bt (fun z => c_59 ((by_lt hrt hrN).mpr z))
            refine lv_aload_n hx hb dX2_next_62 rfl (lv_at hl 1 rfl) ?_
            rcases hq2 : wordP (x.2.1 2) n (w, j, j, k, v) with bq | ⟨w2, a2, b2, k2, v2⟩
            · exact x_thrP (k_XP (n := 0) (As := []) (rest := []) F (k_X2_word x n hR hσ w j k v hsj) ⟨rfl, rfl⟩ ⟨Nat.le_of_ble_eq_true rfl, Nat.le_of_ble_eq_true rfl⟩ q964 q966 qs31 q96 q967 (by decide +kernel) hI hK hSS hS (hw.recv hI hK (cf_reader) rfl) rfl hl.1 rfl (Nat.le_of_ble_eq_true rfl) dX2_next_63 ⟨Nat.le_of_ble_eq_true rfl, Nat.le_of_ble_eq_true rfl⟩) (by rw [hq2]; rfl) hS hlocks hout (jk_rd _ _ _) (by rw [nx_w hsk hnj hlt, hq2]; rfl)
            · skip
              refine x_retP (k_XP (n := 0) (As := []) (rest := []) F (k_X2_word x n hR hσ w j k v hsj) ⟨rfl, rfl⟩ ⟨Nat.le_of_ble_eq_true rfl, Nat.le_of_ble_eq_true rfl⟩ q964 q966 qs31 q96 q967 (by decide +kernel) hI hK hSS hS (hw.recv hI hK (cf_reader) rfl) rfl hl.1 rfl (Nat.le_of_ble_eq_true rfl) dX2_next_63 ⟨Nat.le_of_ble_eq_true rfl, Nat.le_of_ble_eq_true rfl⟩) (by rw [hq2]; rfl) hS (fun H1 locs1 hI hS => ?_)
              refine lv_goto (tgt := 113) hx hb dX2_next_66 (by decide) ?_
              exact W_mono MQ_X (W.vret hx hb hr (fun t ht _ => pq_ret (by first | (rw [nx_0 hsk hnj]; rfl) | (rw [nx_w hsk hnj hlt, hq2]; rfl) | (rw [nx_d hsk hnj hlt hdg, hq2]; rfl) | (rw [nx_s hsk hnj hlt hdg ((by_59 hrt hrN (by omega)).mp c_87)]; rfl)) rfl (by rw [ht]; exact hI) (hS.F ht)) hS.2.2 dX2_next_113)
        · skip
          have c_44 := Int32.not_le.mp c_44
          have hnj : n ≤ j := (by_0 hrt hrN).mp c_44
          refine lv_aload_n hx hb dX2_next_47 rfl (lv_at hl 1 rfl) ?_
          refine lv_iconst (v := 0) hx hb dX2_next_48 (by decide) ?_
          refine r_put (C := RX2) (T := TX2) (N := 8) (cf' := cfC D L (xr (rdX x (w, j, j, k, v)) 1 3 (nI 0))) hx hb hts in_X2 tyX2 tyX2_ok nmX2 hown hK hI hS (cf_reader) rfl 6 (by decide) (hts _ q268) (fun _ h => h) rfl (ty := .int) (by decide +kernel) rfl rfl (Nat.le_of_ble_eq_true rfl) (cs_reader rfl) dX2_next_49 (fun H1 locs1 hI hS => ?_)
          rw [rd_s3] at hI
          refine lv_goto (tgt := 113) hx hb dX2_next_52 (by decide) ?_
          exact W_mono MQ_X (W.vret hx hb hr (fun t ht _ => pq_ret (by first | (rw [nx_0 hsk hnj]; rfl) | (rw [nx_w hsk hnj hlt, ]; rfl) | (rw [nx_d hsk hnj hlt hdg, ]; rfl) | (rw [nx_s hsk hnj hlt hdg ((by_59 hrt hrN (by omega)).mp c_87)]; rfl)) rfl (by rw [ht]; exact hI) (hS.F ht)) hS.2.2 dX2_next_113)
      · skip
        have hb1 : spB (x.2.1 2) n j = true := (by_sp hrt hrN).mp c_10
        have hb2 := spB_lt j hb1
        refine lv_aload_n hx hb dX2_next_13 rfl (lv_at hl 0 rfl) ?_
        refine lv_dup hx hb dX2_next_14 rfl ?_
        refine r_get (v := .int (nI j)) (C := RX2) (T := TX2) (N := 8) hx hb hts in_X2 hown hK hI (cf_reader) rfl 4 (by decide) (hts _ q265) (fun _ h => h) (rdv (rd_1 x w j b k v)) dX2_next_15 ?_
        refine lv_iconst (v := 1) hx hb dX2_next_18 (by decide) ?_
        refine lv_iadd hx hb dX2_next_19 ?_
        rw [show ((nI j) + (1 : Int32)) = nI (j + 1) from na_add (rfl) (rfl)]
        refine r_put (C := RX2) (T := TX2) (N := 8) (cf' := cfC D L (xr (rdX x (w, j, b, k, v)) 1 1 (nI (j + 1)))) hx hb hts in_X2 tyX2 tyX2_ok nmX2 hown hK hI hS (cf_reader) rfl 4 (by decide) (hts _ q265) (fun _ h => h) rfl (ty := .int) (by decide +kernel) rfl rfl (Nat.le_of_ble_eq_true rfl) (cs_reader rfl) dX2_next_20 (fun H1 locs1 hI hS => ?_)
        rw [rd_s1] at hI
        refine lv_goto (tgt := 0) hx hb dX2_next_23 (by decide) ?_
        exact ih0 (j + 1) (by omega) (by omega) (fun i h1 h2 => by by_cases e9 : i = j; exact e9 ▸ hb1; exact hj3 i h1 (by omega)) (by omega) _ _ hI hS ls (lv_sub hl [0] rfl)
  exact lp0 (_ + 1) (a) (Nat.le_refl _) (ha0) (fun i h1 h2 => by omega) (Nat.lt_succ_self _) _ _ hI hS ls (lv_sub hl [0] rfl)
theorem k_X2_number {l : Launch} {D : va_G} {L : Nat → Nat} {A : Nat → Prop} {σ : Nat × Nat × Value} (x : cst) (n : Nat) (hR : rOk x n) (hσ : σ.2.2 = .null ∨ ∃ a, σ.2.2 = .ref a) (w : wd) (a b k v : Nat) (hs : psOk n (w, a, b, k, v)) (hv : Int32) (h : Nat) (hh : hi1 hv h) : MetX l yX2_number (ws_ yX2_number cX2_number 4 (some .int)) ({ frames := 7, cells := 0, slots := 0, locals := 151 } : Room) (va_Pc [.ref (L 46), .int 0, .int hv] (pS D (cfC D L (rdX x (w, a, b, k, v))) A σ)) (pQ D L (rdX x (w, a, b, k, v)) A (iR x (numP (x.2.1 2) n h (w, a, b, k, v)))) A := by
  refine met_XS (by decide) rfl (Nat.le_of_ble_eq_true rfl) ?_
  intro p e s m below meth c ls hx hb hr hml hown hts hlocks hl hI hK hSS hout
  have F : CallFix p m c cX2_number 4 s _ lw_all RX2 := ⟨hx, hb, hml, hown, hts⟩
  have hl : lv_has ls 4 [(0, .ref (L 46)), (1, .int 0), (2, .int hv)] := hl
  have hS : va_S A s.heap s.heap [] := va_S.rf
  obtain ⟨hrn, hrN, hrt⟩ := id hR
  obtain ⟨ho0, ha0, hk0, hv0⟩ : wOk w ∧ a ≤ n ∧ k < 4 ∧ (k = 1 ∨ k = 2 → v < 1000000) := ⟨hs.1, hs.2.1, hs.2.2.1, hs.2.2.2⟩
  refine lv_aload_n hx hb dX2_number_0 rfl (lv_at hl 0 rfl) ?_
  refine lv_aload_n hx hb dX2_number_1 rfl (lv_at hl 0 rfl) ?_
  refine r_get (v := .int (nI k)) (C := RX2) (T := TX2) (N := 8) hx hb hts in_X2 hown hK hI (cf_reader) rfl 6 (by decide) (hts _ q268) (fun _ h => h) (rdv (rd_3 x w a b k v)) dX2_number_2 ?_
  refine lv_iconst (v := 1) hx hb dX2_number_5 (by decide) ?_
  refine lv_icmp_ne (tgt := 25) hx hb dX2_number_6 (by decide) (fun c_6 => ?_) (fun c_6 => ?_)
  · skip
    have c_6 : ¬ k = 1 := fun z => c_6 ((neq (a := k) (b := 1) (rfl) (rfl) (by omega) (by omega)).mpr z)
    refine lv_iconst (v := 0) hx hb dX2_number_25 (by decide) ?_
    exact x_thrP (k_XP (n := 1) (As := [.int 0]) (rest := []) F (k_X2_need_0 x n hR hσ w a b k v) ⟨rfl, rfl⟩ ⟨Nat.le_of_ble_eq_true rfl, Nat.le_of_ble_eq_true rfl⟩ q1013 q1015 qs33 q96 q1016 (by decide +kernel) hI hK hSS hS (hw.recv hI hK (cf_reader) rfl) rfl hl.1 rfl (Nat.le_of_ble_eq_true rfl) dX2_number_26 ⟨Nat.le_of_ble_eq_true rfl, Nat.le_of_ble_eq_true rfl⟩) rfl hS hlocks hout (jk_rd _ _ _) (by rw [nu_n (by omega)]; rfl)
  · skip
    have c_6 : k = 1 := (neq (a := k) (b := 1) (rfl) (rfl) (by omega) (by omega)).mp c_6
    refine lv_aload_n hx hb dX2_number_9 rfl (lv_at hl 0 rfl) ?_
    refine r_get (v := .int (nI v)) (C := RX2) (T := TX2) (N := 8) hx hb hts in_X2 hown hK hI (cf_reader) rfl 7 (by decide) (hts _ q269) (fun _ h => h) (rdv (rd_4 x w a b k v)) dX2_number_10 ?_
    refine lv_iload_n hx hb dX2_number_13 rfl (lv_at hl 1 rfl) ?_
    refine lv_iload_n hx hb dX2_number_14 rfl (lv_at hl 2 rfl) ?_
    refine c_r (k_SN (As := [.int (nI v), .int 0, .int hv]) (rest := [.ref (L 46)]) F (k_X0_in (nI v) 0 hv) ⟨va_cnB 3 hts (lw_meth q441) rfl rfl rfl (nm_7 hK) (hts _ q91) (by decide +kernel) ⟨Nat.le_of_ble_eq_true rfl, Nat.le_of_ble_eq_true rfl⟩, hts _ q440, trivial⟩ rfl hl.1 rfl (Nat.le_of_ble_eq_true rfl) dX2_number_15 ⟨Nat.le_of_ble_eq_true rfl, Nat.le_of_ble_eq_true rfl⟩) ?_
    refine lv_if_eq (tgt := 25) hx hb dX2_number_18 (by decide) (fun c_18 => ?_) (fun c_18 => ?_)
    · skip
      have hvh : ¬ v < h := Nat.not_lt.mpr ((hh v (by omega)).mp c_18)
      refine lv_iconst (v := 0) hx hb dX2_number_25 (by decide) ?_
      exact x_thrP (k_XP (n := 1) (As := [.int 0]) (rest := []) F (k_X2_need_0 x n hR hσ w a b k v) ⟨rfl, rfl⟩ ⟨Nat.le_of_ble_eq_true rfl, Nat.le_of_ble_eq_true rfl⟩ q1013 q1015 qs33 q96 q1016 (by decide +kernel) hI hK hSS hS (hw.recv hI hK (cf_reader) rfl) rfl hl.1 rfl (Nat.le_of_ble_eq_true rfl) dX2_number_26 ⟨Nat.le_of_ble_eq_true rfl, Nat.le_of_ble_eq_true rfl⟩) rfl hS hlocks hout (jk_rd _ _ _) (by rw [nu_n (by omega)]; rfl)
    · skip
      have hvh : v < h := Nat.lt_of_not_le (fun z => c_18 ((hh v (by omega)).mpr z))
      refine lv_iconst (v := 1) hx hb dX2_number_21 (by decide) ?_
      refine lv_goto (tgt := 26) hx hb dX2_number_22 (by decide) ?_
      refine c_m (k_V (As := [.int 1]) (rest := []) F (k_X2_need_1 x n hR w a b k v) (cwV 1 hts (lw_V q1013 q1015 qs33 q96 q1016) rfl rfl rfl (by decide +kernel) ⟨Nat.le_of_ble_eq_true rfl, Nat.le_of_ble_eq_true rfl⟩) hI hK (hw.recv hI hK (cf_reader) rfl) rfl hl.1 rfl (Nat.le_of_ble_eq_true rfl) dX2_number_26 ⟨Nat.le_of_ble_eq_true rfl, Nat.le_of_ble_eq_true rfl⟩) hS (fun H1 locs1 hI hS => ?_)
      refine lv_aload_n hx hb dX2_number_29 rfl (lv_at hl 0 rfl) ?_
      refine r_get (v := .int (nI v)) (C := RX2) (T := TX2) (N := 8) hx hb hts in_X2 hown hK hI (cf_reader) rfl 7 (by decide) (hts _ q269) (fun _ h => h) (rdv (rd_4 x w a b k v)) dX2_number_30 ?_
      refine lv_istore_n (lv' := [(3, .int (nI v)), (0, .ref (L 46)), (1, .int 0), (2, .int hv)]) hx hb dX2_number_33 rfl hl (by decide) rfl (fun ls hl => ?_)
      refine lv_aload_n hx hb dX2_number_34 rfl (lv_at hl 1 rfl) ?_
      rcases hq1 : nextP (x.2.1 2) n (w, a, b, k, v) with bq | ⟨w1, a1, b1, k1, v1⟩
      · exact x_thrP (k_XP (n := 0) (As := []) (rest := []) F (k_X2_next x n hR hσ w a b k v (psOk.w hs)) ⟨rfl, rfl⟩ ⟨Nat.le_of_ble_eq_true rfl, Nat.le_of_ble_eq_true rfl⟩ q952 q954 qs29 q96 q955 (by decide +kernel) hI hK hSS hS (hw.recv hI hK (cf_reader) rfl) rfl hl.1 rfl (Nat.le_of_ble_eq_true rfl) dX2_number_35 ⟨Nat.le_of_ble_eq_true rfl, Nat.le_of_ble_eq_true rfl⟩) (by rw [hq1]; rfl) hS hlocks hout (jk_rd _ _ _) (by rw [nu_y c_6 hvh, hq1]; rfl)
      · skip
        refine x_retP (k_XP (n := 0) (As := []) (rest := []) F (k_X2_next x n hR hσ w a b k v (psOk.w hs)) ⟨rfl, rfl⟩ ⟨Nat.le_of_ble_eq_true rfl, Nat.le_of_ble_eq_true rfl⟩ q952 q954 qs29 q96 q955 (by decide +kernel) hI hK hSS hS (hw.recv hI hK (cf_reader) rfl) rfl hl.1 rfl (Nat.le_of_ble_eq_true rfl) dX2_number_35 ⟨Nat.le_of_ble_eq_true rfl, Nat.le_of_ble_eq_true rfl⟩) (by rw [hq1]; rfl) hS (fun H1 locs1 hI hS => ?_)
        obtain ⟨hs1, hw1, hm1, hg1, hn1⟩ := next_ok hrN (psOk.w hs) hq1
        have hw1 : w = w1 := hw1.symm
        subst hw1
        have hv1 : k1 = 1 ∨ k1 = 2 → v1 < 1000000 := hs1.2.2.2
        have ha1 : a1 ≤ n := hs1.2.1
        have hk1 : k1 < 4 := hs1.2.2.1
        refine lv_iload_n hx hb dX2_number_38 rfl (lv_at hl 0 rfl) ?_
        exact W_mono MQ_X (W.iret hx hb hr (fun t ht _ => pq_ret (by rw [nu_y c_6 hvh, hq1]; rfl) rfl (by rw [ht]; exact hI) (hS.F ht)) hS.2.2 dX2_number_39)
theorem k_X2_behind {l : Launch} {D : va_G} {L : Nat → Nat} {A : Nat → Prop} {σ : Nat × Nat × Value} (x : cst) (n : Nat) (hR : rOk x n) (hσ : σ.2.2 = .null ∨ ∃ a, σ.2.2 = .ref a) (w : wd) (a b k v : Nat) (hs : psOk n (w, a, b, k, v)) (hv : Int32) (h : Nat) (hh : hi1 hv h) : MetX l yX2_behind (ws_ yX2_behind cX2_behind 3 (some .int)) ({ frames := 8, cells := 0, slots := 0, locals := 174 } : Room) (va_Pc [.ref (L 46), .int 0, .int hv] (pS D (cfC D L (rdX x (w, a, b, k, v))) A σ)) (pQ D L (rdX x (w, a, b, k, v)) A (iR x (behP (x.2.1 2) n h (w, a, b, k, v)))) A := by
  refine met_XS (by decide) rfl (Nat.le_of_ble_eq_true rfl) ?_
  intro p e s m below meth c ls hx hb hr hml hown hts hlocks hl hI hK hSS hout
  have F : CallFix p m c cX2_behind 3 s _ lw_all RX2 := ⟨hx, hb, hml, hown, hts⟩
  have hl : lv_has ls 3 [(0, .ref (L 46)), (1, .int 0), (2, .int hv)] := hl
  have hS : va_S A s.heap s.heap [] := va_S.rf
  obtain ⟨hrn, hrN, hrt⟩ := id hR
  obtain ⟨ho0, ha0, hk0, hv0⟩ : wOk w ∧ a ≤ n ∧ k < 4 ∧ (k = 1 ∨ k = 2 → v < 1000000) := ⟨hs.1, hs.2.1, hs.2.2.1, hs.2.2.2⟩
  refine lv_aload_n hx hb dX2_behind_0 rfl (lv_at hl 0 rfl) ?_
  rcases hq1 : nextP (x.2.1 2) n (w, a, b, k, v) with bq | ⟨w1, a1, b1, k1, v1⟩
  · exact x_thrP (k_XP (n := 0) (As := []) (rest := []) F (k_X2_next x n hR hσ w a b k v (psOk.w hs)) ⟨rfl, rfl⟩ ⟨Nat.le_of_ble_eq_true rfl, Nat.le_of_ble_eq_true rfl⟩ q952 q954 qs29 q96 q955 (by decide +kernel) hI hK hSS hS (hw.recv hI hK (cf_reader) rfl) rfl hl.1 rfl (Nat.le_of_ble_eq_true rfl) dX2_behind_1 ⟨Nat.le_of_ble_eq_true rfl, Nat.le_of_ble_eq_true rfl⟩) (by rw [hq1]; rfl) hS hlocks hout (jk_rd _ _ _) (by simp only [behP, hq1]; rfl)
  · skip
    refine x_retP (k_XP (n := 0) (As := []) (rest := []) F (k_X2_next x n hR hσ w a b k v (psOk.w hs)) ⟨rfl, rfl⟩ ⟨Nat.le_of_ble_eq_true rfl, Nat.le_of_ble_eq_true rfl⟩ q952 q954 qs29 q96 q955 (by decide +kernel) hI hK hSS hS (hw.recv hI hK (cf_reader) rfl) rfl hl.1 rfl (Nat.le_of_ble_eq_true rfl) dX2_behind_1 ⟨Nat.le_of_ble_eq_true rfl, Nat.le_of_ble_eq_true rfl⟩) (by rw [hq1]; rfl) hS (fun H1 locs1 hI hS => ?_)
    obtain ⟨hs1, hw1, hm1, hg1, hn1⟩ := next_ok hrN (psOk.w hs) hq1
    have hw1 : w = w1 := hw1.symm
    subst hw1
    have hv1 : k1 = 1 ∨ k1 = 2 → v1 < 1000000 := hs1.2.2.2
    have ha1 : a1 ≤ n := hs1.2.1
    have hk1 : k1 < 4 := hs1.2.2.1
    refine lv_aload_n hx hb dX2_behind_4 rfl (lv_at hl 0 rfl) ?_
    refine lv_iload_n hx hb dX2_behind_5 rfl (lv_at hl 1 rfl) ?_
    refine lv_iload_n hx hb dX2_behind_6 rfl (lv_at hl 2 rfl) ?_
    rcases hq2 : numP (x.2.1 2) n h (w, a1, b1, k1, v1) with bq | ⟨z2, w2, a2, b2, k2, v2⟩
    · exact x_thrP (k_XP (n := 2) (As := [.int 0, .int hv]) (rest := []) F (k_X2_number x n hR hσ w a1 b1 k1 v1 hs1 hv h hh) ⟨rfl, rfl⟩ ⟨Nat.le_of_ble_eq_true rfl, Nat.le_of_ble_eq_true rfl⟩ q1037 q1039 qs38 q96 q1040 (by decide +kernel) hI hK hSS hS (hw.recv hI hK (cf_reader) rfl) rfl hl.1 rfl (Nat.le_of_ble_eq_true rfl) dX2_behind_7 ⟨Nat.le_of_ble_eq_true rfl, Nat.le_of_ble_eq_true rfl⟩) (by rw [hq2]; rfl) hS hlocks hout (jk_rd _ _ _) (by simp only [behP, hq1, hq2]; rfl)
    · skip
      refine x_retP (k_XP (n := 2) (As := [.int 0, .int hv]) (rest := []) F (k_X2_number x n hR hσ w a1 b1 k1 v1 hs1 hv h hh) ⟨rfl, rfl⟩ ⟨Nat.le_of_ble_eq_true rfl, Nat.le_of_ble_eq_true rfl⟩ q1037 q1039 qs38 q96 q1040 (by decide +kernel) hI hK hSS hS (hw.recv hI hK (cf_reader) rfl) rfl hl.1 rfl (Nat.le_of_ble_eq_true rfl) dX2_behind_7 ⟨Nat.le_of_ble_eq_true rfl, Nat.le_of_ble_eq_true rfl⟩) (by rw [hq2]; rfl) hS (fun H1 locs1 hI hS => ?_)
      obtain ⟨hs2, hw2, hz2, hg2⟩ := num_ok hrN hs1 hq2
      have hz2 : z2 < _ := hz2
      have hw2 : w = w2 := hw2.symm
      subst hw2
      have hv2 : k2 = 1 ∨ k2 = 2 → v2 < 1000000 := hs2.2.2.2
      have ha2 : a2 ≤ n := hs2.2.1
      have hk2 : k2 < 4 := hs2.2.2.1
      exact W_mono MQ_X (W.iret hx hb hr (fun t ht _ => pq_ret (by simp only [behP, hq1, hq2]; rfl) rfl (by rw [ht]; exact hI) (hS.F ht)) hS.2.2 dX2_behind_10)
