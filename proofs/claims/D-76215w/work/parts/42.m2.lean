/-! LeftGlovesModel: rows are copied; what nobody reads again -/
def jm (x x' : mst) : Prop := x'.1 0 = x.1 0 ∧ x'.1 3 = x.1 3 ∧ x'.2.1 0 0 = x.2.1 0 0 ∧ x'.2.1 0 1 = x.2.1 0 1 ∧ x'.2.1 1 = x.2.1 1 ∧ x'.2.1 2 = x.2.1 2 ∧ x'.2.1 3 = x.2.1 3 ∧ x'.2.1 4 = x.2.1 4 ∧ x'.2.1 5 = x.2.1 5
theorem jm_rfl {x : mst} : jm x x := ⟨rfl, rfl, rfl, rfl, rfl, rfl, rfl, rfl, rfl⟩
theorem jm_eq {x x' : mst} (h : x' = x) : jm x x' := by subst h; exact jm_rfl
theorem jm_a (x : mst) (f : wd) : jm x (ys x 2 f) := ⟨ys_ne (by decide), ys_ne (by decide), rfl, rfl, rfl, rfl, rfl, rfl, rfl⟩
theorem jm_ag (x : mst) (a : wd) : jm x (ys (ys x 2 a) 0 (x.1 0)) := ⟨ys_at _ _ _, by rw [ys_ne (by decide), ys_ne (by decide)], rfl, rfl, rfl, rfl, rfl, rfl, rfl⟩
theorem jm.trans {x y z : mst} (h : jm x y) (h2 : jm y z) : jm x z := ⟨h2.1.trans h.1, h2.2.1.trans h.2.1, h2.2.2.1.trans h.2.2.1, h2.2.2.2.1.trans h.2.2.2.1, h2.2.2.2.2.1.trans h.2.2.2.2.1, h2.2.2.2.2.2.1.trans h.2.2.2.2.2.1, h2.2.2.2.2.2.2.1.trans h.2.2.2.2.2.2.1, h2.2.2.2.2.2.2.2.1.trans h.2.2.2.2.2.2.2.1, h2.2.2.2.2.2.2.2.2.trans h.2.2.2.2.2.2.2.2⟩
theorem jm_ys {x x' : mst} (h : jm x x') (f : wd) : jm (ys x 0 f) (ys x' 0 f) := ⟨by rw [ys_at, ys_at], by rw [ys_ne (by decide), ys_ne (by decide)]; exact h.2.1, h.2.2.1, h.2.2.2.1, h.2.2.2.2.1, h.2.2.2.2.2.1, h.2.2.2.2.2.2.1, h.2.2.2.2.2.2.2.1, h.2.2.2.2.2.2.2.2⟩
theorem jm_fnd {x x' : mst} (h : jm x x') (k : Nat) : jm (fndM x k) (fndM x' k) := by
  obtain ⟨h1, h2, h3, h4, h5, h6, h7, h8, h9⟩ := h
  refine ⟨h1, h2, ?_, ?_, ?_, ?_, ?_, ?_, ?_⟩
  · show u2 x'.2.1 1 k (x'.2.1 1 k + 1) 0 0 = u2 x.2.1 1 k (x.2.1 1 k + 1) 0 0
    rw [u2_ne (by decide), u2_ne (by decide)]; exact h3
  · show u2 x'.2.1 1 k (x'.2.1 1 k + 1) 0 1 = u2 x.2.1 1 k (x.2.1 1 k + 1) 0 1
    rw [u2_ne (by decide), u2_ne (by decide)]; exact h4
  · show u2 x'.2.1 1 k (x'.2.1 1 k + 1) 1 = u2 x.2.1 1 k (x.2.1 1 k + 1) 1
    rw [u2_same, u2_same, h5]
  · show u2 x'.2.1 1 k (x'.2.1 1 k + 1) 2 = u2 x.2.1 1 k (x.2.1 1 k + 1) 2
    rw [u2_ne (by decide), u2_ne (by decide)]; exact h6
  · show u2 x'.2.1 1 k (x'.2.1 1 k + 1) 3 = u2 x.2.1 1 k (x.2.1 1 k + 1) 3
    rw [u2_ne (by decide), u2_ne (by decide)]; exact h7
  · show u2 x'.2.1 1 k (x'.2.1 1 k + 1) 4 = u2 x.2.1 1 k (x.2.1 1 k + 1) 4
    rw [u2_ne (by decide), u2_ne (by decide)]; exact h8
  · show u2 x'.2.1 1 k (x'.2.1 1 k + 1) 5 = u2 x.2.1 1 k (x.2.1 1 k + 1) 5
    rw [u2_ne (by decide), u2_ne (by decide)]; exact h9
def jMQ (D : va_G) (L : Nat → Nat) (x : mst) (A : Nat → Prop) (ov : Option Value) : Array Value → State → Outcome → State → Prop := fun _ st oc t => oc = .returned ov ∧ (∃ x', jm x x' ∧ hw D (cfM D L x') A t.heap) ∧ va_F A st t
section CJM
variable {p : Program} {l : Launch} {e : Env} {R : Room} {s : State} {m : MethodId} {args : Array Value} {below : List Frame} {meth : Method} {c : Code} {H H0 : Heap} {locs : List Loc} {cells slots : Nat} {Q : State → Prop}
variable {pc : Nat} {ls : Array Slot} {rest st0 : List Value} {a : Array Value} {A : Nat → Prop} {D : va_G} {L : Nat → Nat} {x : mst} {ov : Option Value}
theorem c_jm (hr : va_Run p l e R s m args below meth c H locs cells slots 0 0 (F0 m pc ls st0) rest (jMQ D L x A ov a) A) (hS : va_S A H0 H locs)
    (kk : ∀ (x' : mst) (H1 : Heap) (locs1 : List Loc), jm x x' → hw D (cfM D L x') A H1 → va_S A H0 H1 locs1 → W p l e R s m args below meth c H1 locs1 cells slots Q (F0 m (pc + 3) ls (ov.toList ++ rest))) : W p l e R s m args below meth c H locs cells slots Q (F0 m pc ls st0) := by
  intro T hT X
  obtain ⟨w, st₀, t, T', L2, h0, X', hL, e1, e2, ⟨hv, ⟨x', hj, hI⟩, hz, hk⟩, st⟩ := hr T hT X
  cases hv
  rw [h0] at hz hk
  obtain ⟨t2, a1, b1⟩ := kk x' T'.heap (locs ++ L2) hj (by rw [e1]; exact hI) ⟨Nat.le_trans hS.1 (by rw [e1]; exact hz), fun q h1 h2 => by rw [e1, hk q (Nat.lt_of_lt_of_le h1 hS.1) h2]; exact hS.2.1 q h1 h2, fun q hq => by
      rcases List.mem_append.mp hq with h | h
      · exact hS.2.2 q h
      · exact hL q h⟩ T' rfl X'
  exact ⟨t2, st t2 a1, b1⟩
end CJM
theorem ms_wn {D : va_G} {L : Nat → Nat} {y : mst} {w : Nat} (hw : w < 4) (h0 : w ≠ 0) {f : wd} {g : Nat → Int32} (hg : md f = g) (q : Nat) : cfM D L (ys y w f) q = if q = 1 + w then some (L (1 + w), .inl (D.1 100, 75, .inl g)) else cfM D L y q := by
  subst hg
  by_cases hq : q = 1 + w
  · rw [if_pos hq, hq, mf_w hw, ys_at]
  · rw [if_neg hq]
    unfold cfM
    by_cases h0' : q = 0
    · rw [if_pos h0', if_pos h0']
      have : cm_f L (ys y w f) = cm_f L y := by
        unfold cm_f
        rw [ys_2, ys_ne (fun z => h0 z.symm)]
      rw [this]
    · by_cases h5 : q < 5
      · rw [if_neg h0', if_pos h5, if_neg h0', if_pos h5, ys_ne (by omega)]
      · rw [if_neg h0', if_neg h5, if_neg h0', if_neg h5, ys_2]
theorem k_X13_copies {l : Launch} {D : va_G} {A : Nat → Prop} {cf cf' : cmap} {i0 i1 a0 a1 : Nat} {f g : Nat → Int32} (he0 : cf i0 = some (a0, .inl (D.1 100, 75, .inl f))) (he1 : cf i1 = some (a1, .inl (D.1 100, 75, .inl g))) (hne : i0 ≠ i1) (hset : ∀ q, cf' q = if q = i1 then some (a1, .inl (D.1 100, 75, .inl f)) else cf q) :
    Met l yX13_copies (ws_ yX13_copies cX13_copies 3 none) ({ frames := 0, cells := 0, slots := 0, locals := 0 } : Room) (va_Pc [.ref a0, .ref a1] (pI D cf A)) (nQ D cf' A none) 0 0 A := by
  refine met_I (by decide) rfl (Nat.le_of_ble_eq_true rfl) ?_
  intro p e s m below meth c ls hx hb hr hml hown hts hlocks hl hI hK
  have hl : lv_has ls 3 [(0, .ref a0), (1, .ref a1)] := hl
  have hS : va_S A s.heap s.heap [] := va_S.rf
  refine lv_iconst (v := 0) hx hb dX13_copies_0 (by decide) ?_
  refine lv_istore_n (lv' := [(2, .int 0), (0, .ref a0), (1, .ref a1)]) hx hb dX13_copies_1 rfl hl (by decide) rfl (fun ls hl => ?_)
  have lp : ∀ (fuel i : Nat), i ≤ 75 → 75 - i < fuel → ∀ (cfi : cmap), (∀ q, cfi q = if q = i1 then some (a1, .inl (D.1 100, 75, .inl (fun j => if j < i then f j else g j))) else cf q) → ∀ (H : Heap) (locs : List Loc), hw D cfi A H → va_S A s.heap H locs → ∀ (ls : Array Slot), lv_has ls 3 [(2, .int (nI i)), (0, .ref a0), (1, .ref a1)] → W p l e ({ frames := 0, cells := 0, slots := 0, locals := 0 } : Room) s m ([.ref a0, .ref a1] : List Value).toArray below meth c H locs 0 0 (MQ below (nQ D cf' A none) ([.ref a0, .ref a1] : List Value).toArray s 0 0 A) (F0 m 2 ls []) := by
    intro fuel
    induction fuel with
    | zero => intro i _ hf; exact absurd hf (Nat.not_lt_zero _)
    | succ fuel ih =>
      intro i hi hf cfi hcf H locs hI hS ls hl
      have hei : cfi i1 = some (a1, .inl (D.1 100, 75, .inl (fun j => if j < i then f j else g j))) := by rw [hcf, if_pos rfl]
      have he0i : cfi i0 = some (a0, .inl (D.1 100, 75, .inl f)) := by rw [hcf, if_neg hne]; exact he0
      refine lv_iload_n hx hb dX13_copies_2 rfl (lv_at hl 0 rfl) ?_
      refine lv_bipush (v := 75) hx hb dX13_copies_3 (by decide) ?_
      refine lv_icmp_ge (tgt := 20) hx hb dX13_copies_5 (by decide) (fun c_5 => ?_) (fun c_5 => ?_)
      · have c_5 : 75 ≤ i := (nle (a := 75) (b := i) rfl rfl (by omega) (by omega)).mp c_5
        have hfin : hw D cf' A H := hI.set (e := .inl (D.1 100, 75, .inl f)) hei (by
          have h0 := (hI.1 i1 _ _ hei).1
          show H[a1]? = some (vp_cell _ _)
          rw [vp_cong (g := fun j => if j < i then f j else g j) (fun j hj => by rw [if_pos (by omega)])]
          exact h0) (fun _ _ => rfl) (fun j => by
            rw [hset j]
            by_cases hj : j = i1
            · rw [if_pos hj, if_pos hj]
            · rw [if_neg hj, if_neg hj, hcf j, if_neg hj])
        exact W.vret hx hb hr (fun t ht _ => ⟨rfl, by rw [ht]; exact hfin, hS.F ht⟩) hS.2.2 dX13_copies_20
      · have c_5 : ¬ 75 ≤ i := fun z => c_5 ((nle (a := 75) (b := i) rfl rfl (by omega) (by omega)).mpr z)
        refine lv_aload_n hx hb dX13_copies_8 rfl (lv_at hl 2 rfl) ?_
        refine lv_iload_n hx hb dX13_copies_9 rfl (lv_at hl 0 rfl) ?_
        refine lv_aload_n hx hb dX13_copies_10 rfl (lv_at hl 1 rfl) ?_
        refine lv_iload_n hx hb dX13_copies_11 rfl (lv_at hl 0 rfl) ?_
        refine n_iald (k := i) hx hb hK hI he0i rfl (by omega) (by decide) dX13_copies_12 ?_
        refine n_iast (cf' := fun q => if q = i1 then some (a1, .inl (D.1 100, 75, .inl (fun j => if j < i + 1 then f j else g j))) else cf q) (k := i) hx hb hK hI hS hei rfl (by omega) (by decide) (fun q => ?_) dX13_copies_13 (fun H1 locs1 hI hS => ?_)
        · by_cases hq : q = i1
          · simp only [if_pos hq]
            refine congrArg (fun z => some (a1, (Sum.inl (D.1 100, 75, Sum.inl z) : va_E))) ?_
            funext j
            unfold upd
            by_cases hj : j = i
            · rw [if_pos hj, if_pos (by omega), hj]
            · rw [if_neg hj]
              show (if j < i + 1 then f j else g j) = (if j < i then f j else g j)
              by_cases h1 : j < i
              · rw [if_pos h1, if_pos (by omega)]
              · rw [if_neg h1, if_neg (by omega)]
          · rw [if_neg hq, if_neg hq, hcf, if_neg hq]
        refine lv_iinc (v := (nI (i + 1))) (lv' := [(2, .int (nI (i + 1))), (0, .ref a0), (1, .ref a1)]) hx hb dX13_copies_14 hl (k := 0) rfl (nI_1 _) (by decide) rfl (fun ls hl => ?_)
        refine lv_goto (tgt := 2) hx hb dX13_copies_17 (by decide) ?_
        exact ih (i + 1) (by omega) (by omega) _ (fun _ => rfl) _ _ hI hS ls hl
  exact lp (_ + 1) 0 (by decide) (Nat.lt_succ_self _) cf (fun q => by
    by_cases hq : q = i1
    · rw [if_pos hq, hq, he1]
      congr 4
    · rw [if_neg hq]) _ _ hI hS ls hl
/-! an act upon the model -/
def aM (x : mst) : act → mst
  | .inl k => fndM x k
  | .inr q => ys x 0 q.2
theorem jm_aM {x x' : mst} (h : jm x x') (a : act) : jm (aM x a) (aM x' a) := by
  cases a with
  | inl k => exact jm_fnd h k
  | inr q => exact jm_ys h q.2
def orM (x : mst) (v : Int32) : mst := if v = -1 then fndM x 3 else x
theorem aM_orN (x : mst) (v : Int32) : aM x (a_orN (x.1 0) v) = orM x v := by
  unfold a_orN orM; split
  · rfl
  · exact ys_self _ _
theorem jm_orM {x x' : mst} (h : jm x x') (v : Int32) : jm (orM x v) (orM x' v) := by
  unfold orM; split
  · exact jm_fnd h 3
  · exact h
theorem tp_n {a b c : Nat} (ha : a < 6) (hb : b < 16) (hc : c < 10) : nI (1000 * a + 10 * b + c) / 10 - nI (1000 * a + 10 * b + c) / 10 / 100 * 100 = nI b ∧ tpI (nI (1000 * a + 10 * b + c)) = nI b := by
  constructor
  · rw [show (10 : Int32) = nI 10 from rfl, show (100 : Int32) = nI 100 from rfl, pk_div (by omega) (by decide) (by decide), pk_rem (by omega) (by decide) (by decide)]
    congr 1
    omega
  · rw [tpI, show (1000 : Int32) = nI 1000 from rfl, show (10 : Int32) = nI 10 from rfl, pk_rem (by omega) (by decide) (by decide), pk_div (by omega) (by decide) (by decide)]
    congr 1
    omega
theorem hl_day {v : Int32} (h : isN v 99999) : hlI (v + 1) 0 99999 = v + 1 := by
  obtain ⟨a, ha, rfl⟩ := h
  rw [nI_1]
  unfold hlI
  rw [if_neg (nI_pos (by omega)), show (99999 : Int32) = nI 99999 from rfl, if_neg (fun z => absurd ((nI_ltI (by decide) (by omega)).mp z) (by omega))]
theorem wOk_ps1 {f : wd} (h : wOk f) (i : Nat) : wOk (psw1 f i) := by
  refine ⟨?_, fun k hk => gOk_ps1 h hk i, fun j hj => ?_, ?_, fun k hk => ?_⟩
  · rw [psw1_r _ _ _ (by decide)]; exact h.1
  · rw [psw1_r _ _ _ (by decide)]; exact h.2.2.1 j hj
  · rw [psw1_r _ _ _ (by decide)]; exact h.2.2.2.1
  · rw [psw1_r _ _ _ (by decide)]; exact h.2.2.2.2 k hk
theorem isN_psn {f : wd} {n : Nat} (hd : isN (f 1 2) 10000) (hn : n ≤ 1000) : isN (psn f n 1 2) 99999 := by
  obtain ⟨δ, h1, h2⟩ := hd
  exact ⟨δ + n, by omega, psn_day f h2 n⟩
theorem psw1_s (f : wd) (i : Nat) : psw1 f (i + 1) = lnS f (heI f (nwI f)) (tpI (nwI f)) i (psw1 f i) := rfl
theorem psw2_s (f : wd) (i : Nat) : psw2 f (i + 1) = liS f i (psw2 f i) := rfl
theorem liw_e (f : wd) (k : Nat) (st : Int32) : liw f k st = if 0 < st then (if u2 f (2 + 4) k (mnI 9999 (f (2 + 4) k + 1)) (2 + 4) k < st then u2 f (2 + 4) k (mnI 9999 (f (2 + 4) k + 1)) else isdw (u2 f (2 + 4) k (mnI 9999 (f (2 + 4) k + 1))) k) else u2 f (2 + 4) k (mnI 9999 (f (2 + 4) k + 1)) := rfl
theorem k_X13_comes {l : Launch} {D : va_G} {L : Nat → Nat} {A : Nat → Prop} (x : mst) (hO : wOk (x.1 0)) (kind room : Int32) (h7 : wN (x.1 0) < 8) : Met l yX13_comes (ws_ yX13_comes cX13_comes 5 (some .int)) ({ frames := 1, cells := 0, slots := 0, locals := 23 } : Room) (va_Pc [.ref (L 0), .int kind, .int room] (pI D (cfM D L x) A)) (nQ D (cfM D L (ys x 0 (addw (x.1 0) kind room))) A (some (.int (nI (wN (x.1 0)))))) 0 0 A := by
  refine met_I (by decide) rfl (Nat.le_of_ble_eq_true rfl) ?_
  intro p e s m below meth c ls hx hb hr hml hown hts hlocks hl hI hK
  have F : CallFix p m c cX13_comes 5 s _ lw_all RX13 := ⟨hx, hb, hml, hown, hts⟩
  have hl : lv_has ls 5 [(0, .ref (L 0)), (1, .int kind), (2, .int room)] := hl
  have hS : va_S A s.heap s.heap [] := va_S.rf
  obtain ⟨n, hn, h8⟩ : ∃ n, x.1 0 1 0 = nI n ∧ n ≤ 8 := ⟨_, hO.n⟩
  have hN : wN (x.1 0) = n := by unfold wN; rw [hn, nI_clamp (by omega)]
  rw [hN] at h7
  refine lv_aload_n hx hb dX13_comes_0 rfl (lv_at hl 0 rfl) ?_
  refine r_get (C := RX13) (T := TX13) (N := 18) hx hb hts in_X13 hown hK hI (mf_main) rfl 0 (by decide) (hts _ q1164) (fun _ h => h) rfl dX13_comes_1 ?_
  refine lv_iconst (v := 0) hx hb dX13_comes_4 (by decide) ?_
  refine n_ialdv (k := 0) (v := (x.1 0 1 0)) hx hb hK hI (mf_d) (rfl) (by decide) (by decide) (rfl) dX13_comes_5 ?_
  refine lv_istore_n (lv' := [(3, .int (x.1 0 1 0)), (0, .ref (L 0)), (1, .int kind), (2, .int room)]) hx hb dX13_comes_6 rfl hl (by decide) rfl (fun ls hl => ?_)
  refine lv_iconst (v := 0) hx hb dX13_comes_7 (by decide) ?_
  refine lv_istore (lv' := [(4, .int 0), (3, .int (x.1 0 1 0)), (0, .ref (L 0)), (1, .int kind), (2, .int room)]) hx hb dX13_comes_8 hl (by decide) rfl (fun ls hl => ?_)
  have lp10 : ∀ (fuel : Nat) (i : Nat), (i ≤ 7) → 7 - i < fuel → ∀ (v4 : Int32), v4 = nI i → ∀ (xc10 : mst), xc10 = ys x 0 (itr (clrS n) (x.1 0) i) → ∀ (H : Heap) (locs : List Loc), hw D (cfM D L xc10) A H → va_S A s.heap H locs → ∀ (ls : Array Slot), lv_has ls 5 [(0, .ref (L 0)), (1, .int kind), (2, .int room), (3, .int (x.1 0 1 0)), (4, .int v4)] → W p l e ({ frames := 1, cells := 0, slots := 0, locals := 23 } : Room) s m ([.ref (L 0), .int kind, .int room] : List Value).toArray below meth c H locs 0 0 (MQ below (nQ D (cfM D L (ys x 0 (addw (x.1 0) kind room))) A (some (.int (nI (wN (x.1 0)))))) ([.ref (L 0), .int kind, .int room] : List Value).toArray s 0 0 A) (F0 m 10 ls []) := by
    intro fuel
    induction fuel with
    | zero => intro i hi hf; exact absurd hf (Nat.not_lt_zero _)
    | succ fuel ih10 =>
      intro i hi hf10 v4 e4  xc10 exc10 H locs hI hS ls hl
      subst e4
      have hq2 : xc10.1 0 1 0 = nI n := by rw [exc10, ys_at, clr_1 _ _ _ _ (by decide)]; exact hn
      refine lv_iload hx hb dX13_comes_10 (lv_at hl 4 rfl) ?_
      refine lv_bipush (v := 6) hx hb dX13_comes_12 (by decide) ?_
      refine lv_icmp_gt (tgt := 31) hx hb dX13_comes_14 (by decide) (fun c_14 => ?_) (fun c_14 => ?_)
      · skip
        have c_14 : 6 < i := (nlt (a := 6) (b := i) (rfl) (rfl) (by omega) (by omega)).mp c_14
        refine lv_aload_n hx hb dX13_comes_31 rfl (lv_at hl 0 rfl) ?_
        refine lv_iload_n hx hb dX13_comes_32 rfl (lv_at hl 3 rfl) ?_
        refine lv_iconst (v := 0) hx hb dX13_comes_33 (by decide) ?_
        refine lv_iload_n hx hb dX13_comes_34 rfl (lv_at hl 1 rfl) ?_
        refine c_m (k_V (As := [.int (x.1 0 1 0), .int 0, .int kind]) (rest := []) F (k_X13_sets xc10 (x.1 0 1 0) 0 n 0 kind (by omega) (by omega) hn rfl) (cwV 3 hts (lw_V q1281 q1283 qs54 q107 q1284) rfl rfl rfl (by decide +kernel) ⟨Nat.le_of_ble_eq_true rfl, Nat.le_of_ble_eq_true rfl⟩) hI hK (hw.recv hI hK (mf_main) rfl) rfl hl.1 rfl (Nat.le_of_ble_eq_true rfl) dX13_comes_35 ⟨Nat.le_of_ble_eq_true rfl, Nat.le_of_ble_eq_true rfl⟩) hS (fun H1 locs1 hI hS => ?_)
        obtain ⟨x1, ex1⟩ : ∃ z, z = ys xc10 0 (u2 (xc10.1 0) (2 + 0) n kind) := ⟨_, rfl⟩
        have hf_2 : (x1.1 0 1 0) = nI n := by rw [ex1, ys_at, u2_ne (by omega)]; exact hq2
        rw [← ex1] at hI
        refine lv_aload_n hx hb dX13_comes_38 rfl (lv_at hl 0 rfl) ?_
        refine lv_iload_n hx hb dX13_comes_39 rfl (lv_at hl 3 rfl) ?_
        refine lv_iconst (v := 1) hx hb dX13_comes_40 (by decide) ?_
        refine lv_iload_n hx hb dX13_comes_41 rfl (lv_at hl 2 rfl) ?_
        refine c_m (k_V (As := [.int (x.1 0 1 0), .int 1, .int room]) (rest := []) F (k_X13_sets x1 (x.1 0 1 0) 1 n 1 room (by omega) (by omega) hn rfl) (cwV 3 hts (lw_V q1281 q1283 qs54 q107 q1284) rfl rfl rfl (by decide +kernel) ⟨Nat.le_of_ble_eq_true rfl, Nat.le_of_ble_eq_true rfl⟩) hI hK (hw.recv hI hK (mf_main) rfl) rfl hl.1 rfl (Nat.le_of_ble_eq_true rfl) dX13_comes_42 ⟨Nat.le_of_ble_eq_true rfl, Nat.le_of_ble_eq_true rfl⟩) hS (fun H1 locs1 hI hS => ?_)
        obtain ⟨x3, ex3⟩ : ∃ z, z = ys x1 0 (u2 (x1.1 0) (2 + 1) n room) := ⟨_, rfl⟩
        have hf_4 : (x3.1 0 1 0) = nI n := by rw [ex3, ys_at, u2_ne (by omega)]; exact hf_2
        rw [← ex3] at hI
        refine lv_aload_n hx hb dX13_comes_45 rfl (lv_at hl 0 rfl) ?_
        refine lv_iload_n hx hb dX13_comes_46 rfl (lv_at hl 3 rfl) ?_
        refine lv_iconst (v := 2) hx hb dX13_comes_47 (by decide) ?_
        refine lv_iconst (v := 5) hx hb dX13_comes_48 (by decide) ?_
        refine c_m (k_V (As := [.int (x.1 0 1 0), .int 2, .int 5]) (rest := []) F (k_X13_sets x3 (x.1 0 1 0) 2 n 2 5 (by omega) (by omega) hn rfl) (cwV 3 hts (lw_V q1281 q1283 qs54 q107 q1284) rfl rfl rfl (by decide +kernel) ⟨Nat.le_of_ble_eq_true rfl, Nat.le_of_ble_eq_true rfl⟩) hI hK (hw.recv hI hK (mf_main) rfl) rfl hl.1 rfl (Nat.le_of_ble_eq_true rfl) dX13_comes_49 ⟨Nat.le_of_ble_eq_true rfl, Nat.le_of_ble_eq_true rfl⟩) hS (fun H1 locs1 hI hS => ?_)
        obtain ⟨x5, ex5⟩ : ∃ z, z = ys x3 0 (u2 (x3.1 0) (2 + 2) n 5) := ⟨_, rfl⟩
        have hf_6 : (x5.1 0 1 0) = nI n := by rw [ex5, ys_at, u2_ne (by omega)]; exact hf_4
        rw [← ex5] at hI
        refine lv_aload_n hx hb dX13_comes_52 rfl (lv_at hl 0 rfl) ?_
        refine r_get (C := RX13) (T := TX13) (N := 18) hx hb hts in_X13 hown hK hI (mf_main) rfl 0 (by decide) (hts _ q1164) (fun _ h => h) rfl dX13_comes_53 ?_
        refine lv_iconst (v := 0) hx hb dX13_comes_56 (by decide) ?_
        refine lv_dup2_11 hx hb dX13_comes_57 rfl rfl ?_
        refine n_ialdv (k := 0) (v := (x5.1 0 1 0)) hx hb hK hI (mf_d) (rfl) (by decide) (by decide) (rfl) dX13_comes_58 ?_
        refine lv_iconst (v := 1) hx hb dX13_comes_59 (by decide) ?_
        refine lv_iadd hx hb dX13_comes_60 ?_
        obtain ⟨x7, ex7⟩ : ∃ z, z = ys x5 0 (u2 (x5.1 0) 1 0 ((x5.1 0 1 0) + (1 : Int32))) := ⟨_, rfl⟩
        refine n_iast (cf' := cfM D L x7) (k := 0) hx hb hK hI hS (mf_d) (rfl) (by decide) (by decide) (by rw [ex7]; exact ms_w (w := 0) (by decide) (mu_sc _ 0 0 _ (by decide)) (by rw [u2_at, if_neg (by decide)])) dX13_comes_61 (fun H1 locs1 hI hS => ?_)
        refine lv_iload_n hx hb dX13_comes_62 rfl (lv_at hl 3 rfl) ?_
        exact W.iret hx hb hr (fun t ht _ => ⟨rI (by rw [hN, ← hn]), by rw [ht]; exact hw_eq hI (congrArg (cfM D L) (by subst ex7 ex5 ex3 ex1 exc10; simp only [ys_ys, ys_at, addw, hN]; rw [show i = 7 by omega, u2_ne (show 1 ≠ 2 + 2 by decide), u2_ne (show 1 ≠ 2 + 1 by decide), u2_ne (show 1 ≠ 2 + 0 by decide), clr_1 _ _ _ _ (by decide), hn, nI_1])), hS.F ht⟩) hS.2.2 dX13_comes_63
      · skip
        have c_14 : ¬ 6 < i := fun z => c_14 ((nlt (a := 6) (b := i) (rfl) (rfl) (by omega) (by omega)).mpr z)
        refine lv_aload_n hx hb dX13_comes_17 rfl (lv_at hl 0 rfl) ?_
        refine lv_iload_n hx hb dX13_comes_18 rfl (lv_at hl 3 rfl) ?_
        refine lv_iload hx hb dX13_comes_19 (lv_at hl 4 rfl) ?_
        refine lv_iconst (v := 0) hx hb dX13_comes_21 (by decide) ?_
        refine c_m (k_V (As := [.int (x.1 0 1 0), .int (nI i), .int 0]) (rest := []) F (k_X13_sets xc10 (x.1 0 1 0) (nI i) n i 0 (by omega) (by omega) hn rfl) (cwV 3 hts (lw_V q1281 q1283 qs54 q107 q1284) rfl rfl rfl (by decide +kernel) ⟨Nat.le_of_ble_eq_true rfl, Nat.le_of_ble_eq_true rfl⟩) hI hK (hw.recv hI hK (mf_main) rfl) rfl hl.1 rfl (Nat.le_of_ble_eq_true rfl) dX13_comes_22 ⟨Nat.le_of_ble_eq_true rfl, Nat.le_of_ble_eq_true rfl⟩) hS (fun H1 locs1 hI hS => ?_)
        obtain ⟨x8, ex8⟩ : ∃ z, z = ys xc10 0 (u2 (xc10.1 0) (2 + i) n 0) := ⟨_, rfl⟩
        have hf_9 : (x8.1 0 1 0) = nI n := by rw [ex8, ys_at, u2_ne (by omega)]; exact hq2
        rw [← ex8] at hI
        refine lv_iinc (v := (nI (i + 1))) (lv' := [(4, .int (nI (i + 1))), (0, .ref (L 0)), (1, .int kind), (2, .int room), (3, .int (x.1 0 1 0))]) hx hb dX13_comes_25 hl (k := 4) rfl (nI_1 _) (by decide) rfl (fun ls hl => ?_)
        refine lv_goto (tgt := 10) hx hb dX13_comes_28 (by decide) ?_
        exact ih10 (i + 1) (by omega) (by omega) (nI (i + 1)) (rfl) x8 (by rw [ex8, exc10, ys_at, ys_ys]; rfl) _ _ hI hS ls (lv_sub hl [1, 2, 3, 4, 0] rfl)
  exact lp10 (_ + 1) (0) (Nat.zero_le _) (Nat.lt_succ_self _) 0 (rfl) x ((ys_self _ _).symm) _ _ hI hS ls (lv_sub hl [2, 3, 4, 1, 0] rfl)
set_option maxHeartbeats 4000000 in
theorem k_X13_dayGoes {l : Launch} {D : va_G} {L : Nat → Nat} {A : Nat → Prop} (x : mst) (hO : wOk (x.1 0)) (hd9 : isN (x.1 0 1 2) 99999) : Met l yX13_dayGoes (ws_ yX13_dayGoes cX13_dayGoes 3 none) ({ frames := 5, cells := 0, slots := 0, locals := 114 } : Room) (va_Pc [.ref (L 0)] (pI D (cfM D L x) A)) (nQ D (cfM D L (ys x 0 (psw (x.1 0)))) A none) 0 0 A := by
  refine met_I (by decide) rfl (Nat.le_of_ble_eq_true rfl) ?_
  intro p e s m below meth c ls hx hb hr hml hown hts hlocks hl hI hK
  have F : CallFix p m c cX13_dayGoes 3 s _ lw_all RX13 := ⟨hx, hb, hml, hown, hts⟩
  have hl : lv_has ls 3 [(0, .ref (L 0))] := hl
  have hS : va_S A s.heap s.heap [] := va_S.rf
  obtain ⟨n, hn, h8⟩ : ∃ n, x.1 0 1 0 = nI n ∧ n ≤ 8 := ⟨_, hO.n⟩
  have hN : wN (x.1 0) = n := by unfold wN; rw [hn, nI_clamp (by omega)]
  obtain ⟨ta, tb, tc, h1a, h1b, h1c, enw⟩ := hO.now
  refine lv_aload_n hx hb dX13_dayGoes_0 rfl (lv_at hl 0 rfl) ?_
  refine lv_aload_n hx hb dX13_dayGoes_1 rfl (lv_at hl 0 rfl) ?_
  refine c_r (k_V (As := []) (rest := [.ref (L 0)]) F (k_X13_todays x (hO)) (cwV 0 hts (lw_V q1351 q1353 qs63 q107 q1354) rfl rfl rfl (by decide +kernel) ⟨Nat.le_of_ble_eq_true rfl, Nat.le_of_ble_eq_true rfl⟩) hI hK (hw.recv hI hK (mf_main) rfl) rfl hl.1 rfl (Nat.le_of_ble_eq_true rfl) dX13_dayGoes_2 ⟨Nat.le_of_ble_eq_true rfl, Nat.le_of_ble_eq_true rfl⟩) ?_
  refine c_r (k_V (As := [.int (nwI (x.1 0))]) (rest := []) F (k_X13_hearers x (hO) (nwI (x.1 0)) (hO.now)) (cwV 1 hts (lw_V q1355 q1357 qs64 q107 q1358) rfl rfl rfl (by decide +kernel) ⟨Nat.le_of_ble_eq_true rfl, Nat.le_of_ble_eq_true rfl⟩) hI hK (hw.recv hI hK (mf_main) rfl) rfl hl.1 rfl (Nat.le_of_ble_eq_true rfl) dX13_dayGoes_5 ⟨Nat.le_of_ble_eq_true rfl, Nat.le_of_ble_eq_true rfl⟩) ?_
  refine lv_istore_n (lv' := [(1, .int (heI (x.1 0) (nwI (x.1 0)))), (0, .ref (L 0))]) hx hb dX13_dayGoes_8 rfl hl (by decide) rfl (fun ls hl => ?_)
  refine lv_iconst (v := 0) hx hb dX13_dayGoes_9 (by decide) ?_
  refine lv_istore_n (lv' := [(2, .int 0), (1, .int (heI (x.1 0) (nwI (x.1 0)))), (0, .ref (L 0))]) hx hb dX13_dayGoes_10 rfl hl (by decide) rfl (fun ls hl => ?_)
  have lp11 : ∀ (fuel : Nat) (i : Nat), (i ≤ n) → n - i < fuel → ∀ (v2 : Int32), v2 = nI i → ∀ (xc11 : mst), xc11 = ys x 0 (psw1 (x.1 0) i) → ∀ (H : Heap) (locs : List Loc), hw D (cfM D L xc11) A H → va_S A s.heap H locs → ∀ (ls : Array Slot), lv_has ls 3 [(0, .ref (L 0)), (1, .int (heI (x.1 0) (nwI (x.1 0)))), (2, .int v2)] → W p l e ({ frames := 5, cells := 0, slots := 0, locals := 114 } : Room) s m ([.ref (L 0)] : List Value).toArray below meth c H locs 0 0 (MQ below (nQ D (cfM D L (ys x 0 (psw (x.1 0)))) A none) ([.ref (L 0)] : List Value).toArray s 0 0 A) (F0 m 11 ls []) := by
    intro fuel
    induction fuel with
    | zero => intro i hi hf; exact absurd hf (Nat.not_lt_zero _)
    | succ fuel ih11 =>
      intro i hi hf11 v2 e2  xc11 exc11 H locs hI hS ls hl
      subst e2
      have hq1 : xc11.1 0 1 0 = nI n := by rw [exc11, ys_at, psw1_r _ _ _ (by decide)]; exact hn
      have hrow2 : xc11.1 0 (2 + 0) i = x.1 0 (2 + 0) i := by rw [exc11, ys_at, psw1_r _ _ _ (by decide)]
      have hnw : nwI (xc11.1 0) = nwI (x.1 0) := by rw [exc11, ys_at, nwI, nwI, psw1_r _ _ _ (by decide), psw1_r _ _ _ (by decide)]
      have hO2 : wOk (xc11.1 0) := by rw [exc11, ys_at]; exact wOk_ps1 hO i
      refine lv_iload_n hx hb dX13_dayGoes_11 rfl (lv_at hl 2 rfl) ?_
      refine lv_aload_n hx hb dX13_dayGoes_12 rfl (lv_at hl 0 rfl) ?_
      refine r_get (C := RX13) (T := TX13) (N := 18) hx hb hts in_X13 hown hK hI (mf_main) rfl 0 (by decide) (hts _ q1164) (fun _ h => h) rfl dX13_dayGoes_13 ?_
      refine lv_iconst (v := 0) hx hb dX13_dayGoes_16 (by decide) ?_
      refine n_ialdv (k := 0) (v := (xc11.1 0 1 0)) hx hb hK hI (mf_d) (rfl) (by decide) (by decide) (rfl) dX13_dayGoes_17 ?_
      refine lv_icmp_ge (tgt := 51) hx hb dX13_dayGoes_18 (by decide) (fun c_18 => ?_) (fun c_18 => ?_)
      · skip
        have c_18 : n ≤ i := (nle (a := n) (b := i) (hq1) (rfl) (by omega) (by omega)).mp c_18
        refine lv_iconst (v := 0) hx hb dX13_dayGoes_51 (by decide) ?_
        refine lv_istore_n (lv' := [(2, .int 0), (0, .ref (L 0)), (1, .int (heI (x.1 0) (nwI (x.1 0))))]) hx hb dX13_dayGoes_52 rfl hl (by decide) rfl (fun ls hl => ?_)
        have lp53 : ∀ (fuel : Nat) (i : Nat), (i ≤ n) → n - i < fuel → ∀ (v2 : Int32), v2 = nI i → ∀ (xc53 : mst), xc53 = ys x 0 (psw2 (x.1 0) i) → ∀ (H : Heap) (locs : List Loc), hw D (cfM D L xc53) A H → va_S A s.heap H locs → ∀ (ls : Array Slot), lv_has ls 3 [(0, .ref (L 0)), (1, .int (heI (x.1 0) (nwI (x.1 0)))), (2, .int v2)] → W p l e ({ frames := 5, cells := 0, slots := 0, locals := 114 } : Room) s m ([.ref (L 0)] : List Value).toArray below meth c H locs 0 0 (MQ below (nQ D (cfM D L (ys x 0 (psw (x.1 0)))) A none) ([.ref (L 0)] : List Value).toArray s 0 0 A) (F0 m 53 ls []) := by
          intro fuel
          induction fuel with
          | zero => intro i hi hf; exact absurd hf (Nat.not_lt_zero _)
          | succ fuel ih53 =>
            intro i hi hf53 v2 e2  xc53 exc53 H locs hI hS ls hl
            subst e2
            have hq1 : xc53.1 0 1 0 = nI n := by rw [exc53, ys_at, psw2_r _ _ _ (by decide)]; exact hn
            have hrow2 : xc53.1 0 (2 + 0) i = x.1 0 (2 + 0) i := by rw [exc53, ys_at, psw2_r _ _ _ (by decide)]
            have hgone : xc53.1 0 1 1 = x.1 0 1 1 := by rw [exc53, ys_at, psw2_r _ _ _ (by decide)]
            refine lv_iload_n hx hb dX13_dayGoes_53 rfl (lv_at hl 2 rfl) ?_
            refine lv_aload_n hx hb dX13_dayGoes_54 rfl (lv_at hl 0 rfl) ?_
            refine r_get (C := RX13) (T := TX13) (N := 18) hx hb hts in_X13 hown hK hI (mf_main) rfl 0 (by decide) (hts _ q1164) (fun _ h => h) rfl dX13_dayGoes_55 ?_
            refine lv_iconst (v := 0) hx hb dX13_dayGoes_58 (by decide) ?_
            refine n_ialdv (k := 0) (v := (xc53.1 0 1 0)) hx hb hK hI (mf_d) (rfl) (by decide) (by decide) (rfl) dX13_dayGoes_59 ?_
            refine lv_icmp_ge (tgt := 128) hx hb dX13_dayGoes_60 (by decide) (fun c_60 => ?_) (fun c_60 => ?_)
            · skip
              have c_60 : n ≤ i := (nle (a := n) (b := i) (hq1) (rfl) (by omega) (by omega)).mp c_60
              refine lv_aload_n hx hb dX13_dayGoes_128 rfl (lv_at hl 0 rfl) ?_
              refine r_get (C := RX13) (T := TX13) (N := 18) hx hb hts in_X13 hown hK hI (mf_main) rfl 0 (by decide) (hts _ q1164) (fun _ h => h) rfl dX13_dayGoes_129 ?_
              refine lv_iconst (v := 1) hx hb dX13_dayGoes_132 (by decide) ?_
              refine lv_aload_n hx hb dX13_dayGoes_133 rfl (lv_at hl 0 rfl) ?_
              refine r_get (C := RX13) (T := TX13) (N := 18) hx hb hts in_X13 hown hK hI (mf_main) rfl 0 (by decide) (hts _ q1164) (fun _ h => h) rfl dX13_dayGoes_134 ?_
              refine lv_iconst (v := 1) hx hb dX13_dayGoes_137 (by decide) ?_
              refine n_ialdv (k := 1) (v := (xc53.1 0 1 2)) hx hb hK hI (mf_d) (rfl) (by decide) (by decide) (rfl) dX13_dayGoes_138 ?_
              refine lv_iconst (v := 1) hx hb dX13_dayGoes_139 (by decide) ?_
              refine lv_iadd hx hb dX13_dayGoes_140 ?_
              refine lv_iconst (v := 0) hx hb dX13_dayGoes_141 (by decide) ?_
              refine lv_ldc (v := 99999) hx hb hown (hts _ q1342) dX13_dayGoes_142 ?_
              refine c_r (k_S (As := [.int ((xc53.1 0 1 2) + (1 : Int32)), .int 0, .int 99999]) (rest := [.int 1, .ref (L 1)]) F (k_X13_held ((xc53.1 0 1 2) + (1 : Int32)) 0 99999) (va_cwS 3 hts (lw_S q1298 q1299 q107 q1300) rfl rfl rfl (by decide +kernel) ⟨Nat.le_of_ble_eq_true rfl, Nat.le_of_ble_eq_true rfl⟩) rfl hl.1 rfl (Nat.le_of_ble_eq_true rfl) dX13_dayGoes_144 ⟨Nat.le_of_ble_eq_true rfl, Nat.le_of_ble_eq_true rfl⟩) ?_
              rw [hl_day (by rw [exc53, ys_at, psw2_r _ _ _ (by decide)]; exact hd9)]
              obtain ⟨x1, ex1⟩ : ∃ z, z = ys xc53 0 (u2 (xc53.1 0) 1 2 ((xc53.1 0 1 2) + 1)) := ⟨_, rfl⟩
              have hf_2 : (x1.1 0 1 0) = nI n := by rw [ex1, ys_at, u2_at, if_neg (by decide)]; exact hq1
              refine n_iast (cf' := cfM D L x1) (k := 1) hx hb hK hI hS (mf_d) (rfl) (by decide) (by decide) (by rw [ex1]; exact ms_w (w := 0) (by decide) (mu_sc _ 2 1 _ (by decide)) (by rw [u2_at, if_neg (by decide)])) dX13_dayGoes_147 (fun H1 locs1 hI hS => ?_)
              exact W.vret hx hb hr (fun t ht _ => ⟨rfl, by rw [ht]; exact hw_eq hI (congrArg (cfM D L) (by rw [ex1, exc53]; simp only [ys_at, ys_ys, psw, hN]; rw [show i = n by omega, psw2_r _ _ _ (by decide)])), hS.F ht⟩) hS.2.2 dX13_dayGoes_148
            · skip
              have c_60 : ¬ n ≤ i := fun z => c_60 ((nle (a := n) (b := i) (hq1) (rfl) (by omega) (by omega)).mpr z)
              refine lv_aload_n hx hb dX13_dayGoes_63 rfl (lv_at hl 0 rfl) ?_
              refine r_get (C := RX13) (T := TX13) (N := 18) hx hb hts in_X13 hown hK hI (mf_main) rfl 8 (by decide) (hts _ q1172) (fun _ h => h) rfl dX13_dayGoes_64 ?_
              refine lv_iload_n hx hb dX13_dayGoes_67 rfl (lv_at hl 2 rfl) ?_
              refine lv_ishr hx hb dX13_dayGoes_68 ?_
              refine lv_iconst (v := 1) hx hb dX13_dayGoes_69 (by decide) ?_
              refine lv_iand hx hb dX13_dayGoes_70 ?_
              refine lv_if_ne (tgt := 122) hx hb dX13_dayGoes_71 (by decide) (fun c_71 => ?_) (fun c_71 => ?_)
              · skip
                refine lv_iinc (v := (nI (i + 1))) (lv' := [(2, .int (nI (i + 1))), (0, .ref (L 0)), (1, .int (heI (x.1 0) (nwI (x.1 0))))]) hx hb dX13_dayGoes_122 hl (k := 2) rfl (nI_1 _) (by decide) rfl (fun ls hl => ?_)
                refine lv_goto (tgt := 53) hx hb dX13_dayGoes_125 (by decide) ?_
                exact ih53 (i + 1) (by omega) (by omega) (nI (i + 1)) (rfl) xc53 (by rw [hgone] at c_71; simp only [← hs_0] at c_71; rw [exc53]; (try simp only [ys_at, ys_ys]); rw [psw2_s, liS]; first | (rw [if_neg c_71]; done) | (rw [if_pos c_71, liw_e, if_neg c_100]; done) | (rw [ex3, ys_at, exc53, ys_at] at c_114; rw [if_pos c_71, liw_e, if_pos c_100, if_pos c_114]; done) | (rw [ex3, ys_at, exc53, ys_at] at c_114; rw [if_pos c_71, liw_e, if_pos c_100, if_neg c_114]; done)) _ _ hI hS ls (lv_sub hl [1, 2, 0] rfl)
              · skip
                refine lv_aload_n hx hb dX13_dayGoes_74 rfl (lv_at hl 0 rfl) ?_
                refine lv_iload_n hx hb dX13_dayGoes_75 rfl (lv_at hl 2 rfl) ?_
                refine lv_iconst (v := 4) hx hb dX13_dayGoes_76 (by decide) ?_
                refine lv_aload_n hx hb dX13_dayGoes_77 rfl (lv_at hl 0 rfl) ?_
                refine lv_iload_n hx hb dX13_dayGoes_78 rfl (lv_at hl 2 rfl) ?_
                refine lv_iconst (v := 4) hx hb dX13_dayGoes_79 (by decide) ?_
                refine c_r (k_V (As := [.int (nI i), .int 4]) (rest := [.int 4, .int (nI i), .ref (L 0)]) F (k_X13_its xc53 (nI i) 4 i 4 (by omega) (by omega) rfl rfl) (cwV 2 hts (lw_V q1256 q1258 qs49 q107 q1259) rfl rfl rfl (by decide +kernel) ⟨Nat.le_of_ble_eq_true rfl, Nat.le_of_ble_eq_true rfl⟩) hI hK (hw.recv hI hK (mf_main) rfl) rfl hl.1 rfl (Nat.le_of_ble_eq_true rfl) dX13_dayGoes_80 ⟨Nat.le_of_ble_eq_true rfl, Nat.le_of_ble_eq_true rfl⟩) ?_
                refine lv_iconst (v := 1) hx hb dX13_dayGoes_83 (by decide) ?_
                refine lv_iadd hx hb dX13_dayGoes_84 ?_
                refine lv_iconst (v := 0) hx hb dX13_dayGoes_85 (by decide) ?_
                refine lv_sipush (v := 9999) hx hb dX13_dayGoes_86 (by decide) ?_
                refine c_r (k_S (As := [.int ((xc53.1 0 (2 + 4) i) + (1 : Int32)), .int 0, .int 9999]) (rest := [.int 4, .int (nI i), .ref (L 0)]) F (k_X13_held ((xc53.1 0 (2 + 4) i) + (1 : Int32)) 0 9999) (va_cwS 3 hts (lw_S q1298 q1299 q107 q1300) rfl rfl rfl (by decide +kernel) ⟨Nat.le_of_ble_eq_true rfl, Nat.le_of_ble_eq_true rfl⟩) rfl hl.1 rfl (Nat.le_of_ble_eq_true rfl) dX13_dayGoes_89 ⟨Nat.le_of_ble_eq_true rfl, Nat.le_of_ble_eq_true rfl⟩) ?_
                rw [hl_mn (by rw [exc53, ys_at]; exact (gOk_ps2 hO (by omega) i).2.2.2.2.1)]
                refine c_m (k_V (As := [.int (nI i), .int 4, .int (mnI 9999 (xc53.1 0 (2 + 4) i + 1))]) (rest := []) F (k_X13_sets xc53 (nI i) 4 i 4 (mnI 9999 (xc53.1 0 (2 + 4) i + 1)) (by omega) (by omega) rfl rfl) (cwV 3 hts (lw_V q1281 q1283 qs54 q107 q1284) rfl rfl rfl (by decide +kernel) ⟨Nat.le_of_ble_eq_true rfl, Nat.le_of_ble_eq_true rfl⟩) hI hK (hw.recv hI hK (mf_main) rfl) rfl hl.1 rfl (Nat.le_of_ble_eq_true rfl) dX13_dayGoes_92 ⟨Nat.le_of_ble_eq_true rfl, Nat.le_of_ble_eq_true rfl⟩) hS (fun H1 locs1 hI hS => ?_)
                obtain ⟨x3, ex3⟩ : ∃ z, z = ys xc53 0 (u2 (xc53.1 0) (2 + 4) i (mnI 9999 (xc53.1 0 (2 + 4) i + 1))) := ⟨_, rfl⟩
                have hf_4 : (x3.1 0 1 0) = nI n := by rw [ex3, ys_at, u2_ne (by omega)]; exact hq1
                rw [← ex3] at hI
                refine lv_aload_n hx hb dX13_dayGoes_95 rfl (lv_at hl 0 rfl) ?_
                refine lv_iload_n hx hb dX13_dayGoes_96 rfl (lv_at hl 2 rfl) ?_
                refine c_r (k_V (As := [.int (nI i)]) (rest := []) F (k_X13_stays x3 i (kN (x.1 0) i) (by omega) (hO.k (k := i) (by omega)).2 (by rw [ex3, ys_at, u2_ne (by decide), hrow2]; exact (hO.k (k := i) (by omega)).1)) (cwV 1 hts (lw_V q1305 q1307 qs58 q107 q1308) rfl rfl rfl (by decide +kernel) ⟨Nat.le_of_ble_eq_true rfl, Nat.le_of_ble_eq_true rfl⟩) hI hK (hw.recv hI hK (mf_main) rfl) rfl hl.1 rfl (Nat.le_of_ble_eq_true rfl) dX13_dayGoes_97 ⟨Nat.le_of_ble_eq_true rfl, Nat.le_of_ble_eq_true rfl⟩) ?_
                refine lv_if_le (tgt := 122) hx hb dX13_dayGoes_100 (by decide) (fun c_100 => ?_) (fun c_100 => ?_)
                · skip
                  have c_100 := Int32.not_lt.mpr c_100
                  refine lv_iinc (v := (nI (i + 1))) (lv' := [(2, .int (nI (i + 1))), (0, .ref (L 0)), (1, .int (heI (x.1 0) (nwI (x.1 0))))]) hx hb dX13_dayGoes_122 hl (k := 2) rfl (nI_1 _) (by decide) rfl (fun ls hl => ?_)
                  refine lv_goto (tgt := 53) hx hb dX13_dayGoes_125 (by decide) ?_
                  exact ih53 (i + 1) (by omega) (by omega) (nI (i + 1)) (rfl) x3 (by rw [hgone] at c_71; simp only [← hs_0] at c_71; rw [ex3, exc53]; (try simp only [ys_at, ys_ys]); rw [psw2_s, liS]; first | (rw [if_neg c_71]; done) | (rw [if_pos c_71, liw_e, if_neg c_100]; done) | (rw [ex3, ys_at, exc53, ys_at] at c_114; rw [if_pos c_71, liw_e, if_pos c_100, if_pos c_114]; done) | (rw [ex3, ys_at, exc53, ys_at] at c_114; rw [if_pos c_71, liw_e, if_pos c_100, if_neg c_114]; done)) _ _ hI hS ls (lv_sub hl [1, 2, 0] rfl)
                · skip
                  have c_100 := Int32.not_le.mp c_100
                  refine lv_aload_n hx hb dX13_dayGoes_103 rfl (lv_at hl 0 rfl) ?_
                  refine lv_iload_n hx hb dX13_dayGoes_104 rfl (lv_at hl 2 rfl) ?_
                  refine lv_iconst (v := 4) hx hb dX13_dayGoes_105 (by decide) ?_
                  refine c_r (k_V (As := [.int (nI i), .int 4]) (rest := []) F (k_X13_its x3 (nI i) 4 i 4 (by omega) (by omega) rfl rfl) (cwV 2 hts (lw_V q1256 q1258 qs49 q107 q1259) rfl rfl rfl (by decide +kernel) ⟨Nat.le_of_ble_eq_true rfl, Nat.le_of_ble_eq_true rfl⟩) hI hK (hw.recv hI hK (mf_main) rfl) rfl hl.1 rfl (Nat.le_of_ble_eq_true rfl) dX13_dayGoes_106 ⟨Nat.le_of_ble_eq_true rfl, Nat.le_of_ble_eq_true rfl⟩) ?_
                  refine lv_aload_n hx hb dX13_dayGoes_109 rfl (lv_at hl 0 rfl) ?_
                  refine lv_iload_n hx hb dX13_dayGoes_110 rfl (lv_at hl 2 rfl) ?_
                  refine c_r (k_V (As := [.int (nI i)]) (rest := [.int (x3.1 0 (2 + 4) i)]) F (k_X13_stays x3 i (kN (x.1 0) i) (by omega) (hO.k (k := i) (by omega)).2 (by rw [ex3, ys_at, u2_ne (by decide), hrow2]; exact (hO.k (k := i) (by omega)).1)) (cwV 1 hts (lw_V q1305 q1307 qs58 q107 q1308) rfl rfl rfl (by decide +kernel) ⟨Nat.le_of_ble_eq_true rfl, Nat.le_of_ble_eq_true rfl⟩) hI hK (hw.recv hI hK (mf_main) rfl) rfl hl.1 rfl (Nat.le_of_ble_eq_true rfl) dX13_dayGoes_111 ⟨Nat.le_of_ble_eq_true rfl, Nat.le_of_ble_eq_true rfl⟩) ?_
                  refine lv_icmp_lt (tgt := 122) hx hb dX13_dayGoes_114 (by decide) (fun c_114 => ?_) (fun c_114 => ?_)
                  · skip
                    refine lv_iinc (v := (nI (i + 1))) (lv' := [(2, .int (nI (i + 1))), (0, .ref (L 0)), (1, .int (heI (x.1 0) (nwI (x.1 0))))]) hx hb dX13_dayGoes_122 hl (k := 2) rfl (nI_1 _) (by decide) rfl (fun ls hl => ?_)
                    refine lv_goto (tgt := 53) hx hb dX13_dayGoes_125 (by decide) ?_
                    exact ih53 (i + 1) (by omega) (by omega) (nI (i + 1)) (rfl) x3 (by rw [hgone] at c_71; simp only [← hs_0] at c_71; rw [ex3, exc53]; (try simp only [ys_at, ys_ys]); rw [psw2_s, liS]; first | (rw [if_neg c_71]; done) | (rw [if_pos c_71, liw_e, if_neg c_100]; done) | (rw [ex3, ys_at, exc53, ys_at] at c_114; rw [if_pos c_71, liw_e, if_pos c_100, if_pos c_114]; done) | (rw [ex3, ys_at, exc53, ys_at] at c_114; rw [if_pos c_71, liw_e, if_pos c_100, if_neg c_114]; done)) _ _ hI hS ls (lv_sub hl [1, 2, 0] rfl)
                  · skip
                    refine lv_aload_n hx hb dX13_dayGoes_117 rfl (lv_at hl 0 rfl) ?_
                    refine lv_iload_n hx hb dX13_dayGoes_118 rfl (lv_at hl 2 rfl) ?_
                    refine c_m (k_V (As := [.int (nI i)]) (rest := []) F (k_X13_drawnOn x3 i (by omega) (by rw [ex3, ys_at, u2_ne (by decide), exc53, ys_at]; exact (gOk_ps2 hO (by omega) i).2.2.2.2.2.2)) (cwV 1 hts (lw_V q1325 q1327 qs60 q107 q1328) rfl rfl rfl (by decide +kernel) ⟨Nat.le_of_ble_eq_true rfl, Nat.le_of_ble_eq_true rfl⟩) hI hK (hw.recv hI hK (mf_main) rfl) rfl hl.1 rfl (Nat.le_of_ble_eq_true rfl) dX13_dayGoes_119 ⟨Nat.le_of_ble_eq_true rfl, Nat.le_of_ble_eq_true rfl⟩) hS (fun H1 locs1 hI hS => ?_)
                    obtain ⟨x5, ex5⟩ : ∃ z, z = ys x3 0 (isdw (x3.1 0) i) := ⟨_, rfl⟩
                    rw [← ex5] at hI
                    refine lv_iinc (v := (nI (i + 1))) (lv' := [(2, .int (nI (i + 1))), (0, .ref (L 0)), (1, .int (heI (x.1 0) (nwI (x.1 0))))]) hx hb dX13_dayGoes_122 hl (k := 2) rfl (nI_1 _) (by decide) rfl (fun ls hl => ?_)
                    refine lv_goto (tgt := 53) hx hb dX13_dayGoes_125 (by decide) ?_
                    exact ih53 (i + 1) (by omega) (by omega) (nI (i + 1)) (rfl) x5 (by rw [hgone] at c_71; simp only [← hs_0] at c_71; rw [ex5, ex3, exc53]; (try simp only [ys_at, ys_ys]); rw [psw2_s, liS]; first | (rw [if_neg c_71]; done) | (rw [if_pos c_71, liw_e, if_neg c_100]; done) | (rw [ex3, ys_at, exc53, ys_at] at c_114; rw [if_pos c_71, liw_e, if_pos c_100, if_pos c_114]; done) | (rw [ex3, ys_at, exc53, ys_at] at c_114; rw [if_pos c_71, liw_e, if_pos c_100, if_neg c_114]; done)) _ _ hI hS ls (lv_sub hl [1, 2, 0] rfl)
        exact lp53 (_ + 1) (0) (Nat.zero_le _) (Nat.lt_succ_self _) 0 (rfl) xc11 (by rw [exc11]; rw [show i = n by omega, psw2, hN]; rfl) _ _ hI hS ls (lv_sub hl [1, 2, 0] rfl)
      · skip
        have c_18 : ¬ n ≤ i := fun z => c_18 ((nle (a := n) (b := i) (hq1) (rfl) (by omega) (by omega)).mpr z)
        refine lv_iload_n hx hb dX13_dayGoes_21 rfl (lv_at hl 1 rfl) ?_
        refine lv_iload_n hx hb dX13_dayGoes_22 rfl (lv_at hl 2 rfl) ?_
        refine lv_ishr hx hb dX13_dayGoes_23 ?_
        refine lv_iconst (v := 1) hx hb dX13_dayGoes_24 (by decide) ?_
        refine lv_iand hx hb dX13_dayGoes_25 ?_
        refine lv_iconst (v := 1) hx hb dX13_dayGoes_26 (by decide) ?_
        refine lv_icmp_ne (tgt := 45) hx hb dX13_dayGoes_27 (by decide) (fun c_27 => ?_) (fun c_27 => ?_)
        · skip
          refine lv_iinc (v := (nI (i + 1))) (lv' := [(2, .int (nI (i + 1))), (0, .ref (L 0)), (1, .int (heI (x.1 0) (nwI (x.1 0))))]) hx hb dX13_dayGoes_45 hl (k := 2) rfl (nI_1 _) (by decide) rfl (fun ls hl => ?_)
          refine lv_goto (tgt := 11) hx hb dX13_dayGoes_48 (by decide) ?_
          exact ih11 (i + 1) (by omega) (by omega) (nI (i + 1)) (rfl) xc11 (by simp only [← hs_1, Classical.not_not] at c_27; rw [exc11]; (try simp only [ys_at, ys_ys]); rw [psw1_s, lnS]; first | (rw [if_pos c_27]; done) | (rw [if_neg c_27]; rw [exc11, ys_at] at hnw; rw [hnw, enw, (tp_n h1a h1b h1c).1, (tp_n h1a h1b h1c).2]; done)) _ _ hI hS ls (lv_sub hl [1, 2, 0] rfl)
        · skip
          refine lv_aload_n hx hb dX13_dayGoes_30 rfl (lv_at hl 0 rfl) ?_
          refine lv_iload_n hx hb dX13_dayGoes_31 rfl (lv_at hl 2 rfl) ?_
          refine lv_aload_n hx hb dX13_dayGoes_32 rfl (lv_at hl 0 rfl) ?_
          refine c_r (k_V (As := []) (rest := [.int (nI i), .ref (L 0)]) F (k_X13_todays xc11 (hO2)) (cwV 0 hts (lw_V q1351 q1353 qs63 q107 q1354) rfl rfl rfl (by decide +kernel) ⟨Nat.le_of_ble_eq_true rfl, Nat.le_of_ble_eq_true rfl⟩) hI hK (hw.recv hI hK (mf_main) rfl) rfl hl.1 rfl (Nat.le_of_ble_eq_true rfl) dX13_dayGoes_33 ⟨Nat.le_of_ble_eq_true rfl, Nat.le_of_ble_eq_true rfl⟩) ?_
          refine lv_bipush (v := 10) hx hb dX13_dayGoes_36 (by decide) ?_
          refine lv_idiv hx hb dX13_dayGoes_38 (by decide) ?_
          refine lv_bipush (v := 100) hx hb dX13_dayGoes_39 (by decide) ?_
          refine lv_irem hx hb dX13_dayGoes_41 (by decide) ?_
          refine c_m (k_V (As := [.int (nI i), .int (((nwI (xc11.1 0)) / (10 : Int32)) - ((nwI (xc11.1 0)) / (10 : Int32)) / (100 : Int32) * (100 : Int32))]) (rest := []) F (k_X13_learns xc11 i (kN (x.1 0) i) (((nwI (xc11.1 0)) / (10 : Int32)) - ((nwI (xc11.1 0)) / (10 : Int32)) / (100 : Int32) * (100 : Int32)) tb (by omega) (hO.k (k := i) (by omega)).2 (by rw [hrow2]; exact (hO.k (k := i) (by omega)).1) h1b (by rw [hnw, enw]; exact (tp_n h1a h1b h1c).1) (by rw [exc11, ys_at]; exact (gOk_ps1 hO (by omega) i).2.2.2.1)) (cwV 2 hts (lw_V q1359 q1361 qs65 q107 q1362) rfl rfl rfl (by decide +kernel) ⟨Nat.le_of_ble_eq_true rfl, Nat.le_of_ble_eq_true rfl⟩) hI hK (hw.recv hI hK (mf_main) rfl) rfl hl.1 rfl (Nat.le_of_ble_eq_true rfl) dX13_dayGoes_42 ⟨Nat.le_of_ble_eq_true rfl, Nat.le_of_ble_eq_true rfl⟩) hS (fun H1 locs1 hI hS => ?_)
          obtain ⟨x6, ex6⟩ : ∃ z, z = ys xc11 0 (lnw (xc11.1 0) i (((nwI (xc11.1 0)) / (10 : Int32)) - ((nwI (xc11.1 0)) / (10 : Int32)) / (100 : Int32) * (100 : Int32)) (kpI (kN (x.1 0) i))) := ⟨_, rfl⟩
          rw [← ex6] at hI
          refine lv_iinc (v := (nI (i + 1))) (lv' := [(2, .int (nI (i + 1))), (0, .ref (L 0)), (1, .int (heI (x.1 0) (nwI (x.1 0))))]) hx hb dX13_dayGoes_45 hl (k := 2) rfl (nI_1 _) (by decide) rfl (fun ls hl => ?_)
          refine lv_goto (tgt := 11) hx hb dX13_dayGoes_48 (by decide) ?_
          exact ih11 (i + 1) (by omega) (by omega) (nI (i + 1)) (rfl) x6 (by simp only [← hs_1, Classical.not_not] at c_27; rw [ex6, exc11]; (try simp only [ys_at, ys_ys]); rw [psw1_s, lnS]; first | (rw [if_pos c_27]; done) | (rw [if_neg c_27]; rw [exc11, ys_at] at hnw; rw [hnw, enw, (tp_n h1a h1b h1c).1, (tp_n h1a h1b h1c).2]; done)) _ _ hI hS ls (lv_sub hl [1, 2, 0] rfl)
  exact lp11 (_ + 1) (0) (Nat.zero_le _) (Nat.lt_succ_self _) 0 (rfl) x ((ys_self _ _).symm) _ _ hI hS ls (lv_sub hl [2, 1, 0] rfl)
theorem k_X13_daysGo {l : Launch} {D : va_G} {L : Nat → Nat} {A : Nat → Prop} (x : mst) (hO : wOk (x.1 0)) (hd : isN (x.1 0 1 2) 10000) (n : Nat) (hn : n ≤ 1000) : Met l yX13_daysGo (ws_ yX13_daysGo cX13_daysGo 3 none) ({ frames := 6, cells := 0, slots := 0, locals := 136 } : Room) (va_Pc [.ref (L 0), .int (nI n)] (pI D (cfM D L x) A)) (nQ D (cfM D L (ys x 0 (psn (x.1 0) n))) A none) 0 0 A := by
  refine met_I (by decide) rfl (Nat.le_of_ble_eq_true rfl) ?_
  intro p e s m below meth c ls hx hb hr hml hown hts hlocks hl hI hK
  have F : CallFix p m c cX13_daysGo 3 s _ lw_all RX13 := ⟨hx, hb, hml, hown, hts⟩
  have hl : lv_has ls 3 [(0, .ref (L 0)), (1, .int (nI n))] := hl
  have hS : va_S A s.heap s.heap [] := va_S.rf
  refine lv_iconst (v := 0) hx hb dX13_daysGo_0 (by decide) ?_
  refine lv_istore_n (lv' := [(2, .int 0), (0, .ref (L 0)), (1, .int (nI n))]) hx hb dX13_daysGo_1 rfl hl (by decide) rfl (fun ls hl => ?_)
  have lp2 : ∀ (fuel : Nat) (i : Nat), (i ≤ n) → n - i < fuel → ∀ (v2 : Int32), v2 = nI i → ∀ (xc2 : mst), xc2 = ys x 0 (psn (x.1 0) i) → ∀ (H : Heap) (locs : List Loc), hw D (cfM D L xc2) A H → va_S A s.heap H locs → ∀ (ls : Array Slot), lv_has ls 3 [(0, .ref (L 0)), (1, .int (nI n)), (2, .int v2)] → W p l e ({ frames := 6, cells := 0, slots := 0, locals := 136 } : Room) s m ([.ref (L 0), .int (nI n)] : List Value).toArray below meth c H locs 0 0 (MQ below (nQ D (cfM D L (ys x 0 (psn (x.1 0) n))) A none) ([.ref (L 0), .int (nI n)] : List Value).toArray s 0 0 A) (F0 m 2 ls []) := by
    intro fuel
    induction fuel with
    | zero => intro i hi hf; exact absurd hf (Nat.not_lt_zero _)
    | succ fuel ih2 =>
      intro i hi hf2 v2 e2  xc2 exc2 H locs hI hS ls hl
      subst e2
      have hO2 : wOk (xc2.1 0) := by rw [exc2, ys_at]; exact wOk_psn hO hd i (by omega)
      have hd2 : isN (xc2.1 0 1 2) 99999 := by rw [exc2, ys_at]; exact isN_psn hd (by omega)
      refine lv_iload_n hx hb dX13_daysGo_2 rfl (lv_at hl 2 rfl) ?_
      refine lv_iload_n hx hb dX13_daysGo_3 rfl (lv_at hl 1 rfl) ?_
      refine lv_icmp_ge (tgt := 17) hx hb dX13_daysGo_4 (by decide) (fun c_4 => ?_) (fun c_4 => ?_)
      · skip
        have c_4 : n ≤ i := (nle (a := n) (b := i) (rfl) (rfl) (by omega) (by omega)).mp c_4
        exact W.vret hx hb hr (fun t ht _ => ⟨rfl, by rw [ht]; exact hw_eq hI (congrArg (cfM D L) (by rw [exc2, show i = n by omega])), hS.F ht⟩) hS.2.2 dX13_daysGo_17
      · skip
        have c_4 : ¬ n ≤ i := fun z => c_4 ((nle (a := n) (b := i) (rfl) (rfl) (by omega) (by omega)).mpr z)
        refine lv_aload_n hx hb dX13_daysGo_7 rfl (lv_at hl 0 rfl) ?_
        refine c_m (k_V (As := []) (rest := []) F (k_X13_dayGoes xc2 (hO2) (hd2)) (cwV 0 hts (lw_V q1347 q1349 qs62 q107 q1350) rfl rfl rfl (by decide +kernel) ⟨Nat.le_of_ble_eq_true rfl, Nat.le_of_ble_eq_true rfl⟩) hI hK (hw.recv hI hK (mf_main) rfl) rfl hl.1 rfl (Nat.le_of_ble_eq_true rfl) dX13_daysGo_8 ⟨Nat.le_of_ble_eq_true rfl, Nat.le_of_ble_eq_true rfl⟩) hS (fun H1 locs1 hI hS => ?_)
        obtain ⟨x1, ex1⟩ : ∃ z, z = ys xc2 0 (psw (xc2.1 0)) := ⟨_, rfl⟩
        rw [← ex1] at hI
        refine lv_iinc (v := (nI (i + 1))) (lv' := [(2, .int (nI (i + 1))), (0, .ref (L 0)), (1, .int (nI n))]) hx hb dX13_daysGo_11 hl (k := 2) rfl (nI_1 _) (by decide) rfl (fun ls hl => ?_)
        refine lv_goto (tgt := 2) hx hb dX13_daysGo_14 (by decide) ?_
        exact ih2 (i + 1) (by omega) (by omega) (nI (i + 1)) (rfl) x1 (by rw [ex1, exc2]; simp only [ys_at, ys_ys]; rfl) _ _ hI hS ls (lv_sub hl [1, 2, 0] rfl)
  exact lp2 (_ + 1) (0) (Nat.zero_le _) (Nat.lt_succ_self _) 0 (rfl) x ((ys_self _ _).symm) _ _ hI hS ls (lv_sub hl [1, 2, 0] rfl)
