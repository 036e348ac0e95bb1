/-! System.arraycopy over a world of numbered cells; World.copy -/
theorem vp_cong {cA : ClassId} {n : Nat} {f g : Nat → Int32} (h : ∀ j, j < n → f j = g j) : vp_cell cA (n, .inl f) = vp_cell cA (n, .inl g) := by
  rw [vp_cell_i, vp_cell_i]
  unfold arrV
  congr 1
  refine congrArg _ (funext fun j => ?_)
  exact congrArg Value.int (h j.val j.isLt)
section NCOPY
variable {p : Program} {l : Launch} {e : Env} {R : Room} {s : State} {m : MethodId} {args : Array Value} {below : List Frame} {meth : Method} {c : Code} {H H0 : Heap} {locs : List Loc} {cells slots : Nat} {Q : State → Prop}
variable {cc : ByteArray} {pc : Nat} {ls : Array Slot} {rest : List Value} {A : Nat → Prop} {D : va_G} {cf cf' : cmap} {a : Nat}
theorem n_copy (hexec : p.tables.exec = Jvm.exec) (hb : c.code = cc) (hml : c.maxLocals = ls.size) {own : String} {index : Nat} (hown : s.vm.findClass own = some m.cls) (hlink : (Cond.methodLink own index arraycopyName).before args s = true) (hnat : (Cond.native arraycopyName).before args s = true) (hstat : (Cond.static arraycopyName).before args s = true) (hini : (Cond.initialized "java/lang/System").before args s = true)
    (hK : KK D s) (hI : hw D cf A H) (hS : va_S A H0 H locs) (t0 : Nat) {cA : ClassId} {ty : FieldType} (ht0 : (tyA D)[t0]? = some (cA, ty)) (hprim : refKind ty = false) {i0 i1 a0 n0 n1 : Nat} {f g g' : Nat → Int32} (he0 : cf i0 = some (a0, .inl (cA, n0, .inl f))) (he1 : cf i1 = some (a, .inl (cA, n1, .inl g)))
    {sp dp n : Int32} {σ δ ν : Nat} (q1 : sp = nI σ) (q2 : dp = nI δ) (q3 : n = nI ν) (q4 : σ + ν ≤ n0) (q5 : δ + ν ≤ n1) (hn0 : n0 ≤ 1000) (hn1 : n1 ≤ 1000) (hfit : ∀ i, i < ν → fits ty (.int (f (σ + i))) = true) (hg : ∀ j, j < n1 → va_cpy f g σ δ ν j = g' j) (hset : ∀ q, cf' q = if q = i1 then some (a, .inl (cA, n1, .inl g')) else cf q)
    (hframes : 1 ≤ R.frames) (hlocals : (rest.map fun v => v.category).sum + (nativeFrameWords "java/lang/System" "arraycopy" 5 + 11) ≤ R.locals) (hdg : decode cc pc = .ok (.invokestatic index, 3))
    (kk : ∀ (H1 : Heap) (locs1 : List Loc), hw D cf' A H1 → va_S A H0 H1 locs1 → W p l e R s m args below meth c H1 locs1 cells slots Q (F0 m (pc + 3) ls rest)) : W p l e R s m args below meth c H locs cells slots Q (F0 m pc ls (.int n :: .int dp :: .ref a :: .int sp :: .ref a0 :: rest)) := by
  have h1 : ¬ sp < 0 := by rw [q1]; exact nI_pos (by omega)
  have h2 : ¬ dp < 0 := by rw [q2]; exact nI_pos (by omega)
  have h3 : ¬ n < 0 := by rw [q3]; exact nI_pos (by omega)
  have z1 : sp.toNatClampNeg = σ := by rw [q1]; exact nI_clamp (by omega)
  have z2 : dp.toNatClampNeg = δ := by rw [q2]; exact nI_clamp (by omega)
  have z3 : n.toNatClampNeg = ν := by rw [q3]; exact nI_clamp (by omega)
  have nn : ∀ z : Int32, ¬ z < 0 → z.toInt = (z.toNatClampNeg : Int) := by
    intro z hz
    have hz0 : (0 : Int) ≤ z.toInt := by
      have := Int32.not_lt.mp hz
      simpa using Int32.le_iff_toInt_le.mp this
    show z.toInt = ((z.toInt.toNat : Nat) : Int)
    omega
  intro T hT X
  obtain ⟨hc0, -⟩ := hI.1 i0 _ _ he0
  obtain ⟨hc1, hAa⟩ := hI.1 i1 _ _ he1
  have hc0 : H[a0]? = some (vp_cell cA (n0, .inl f)) := hc0
  have hc1 : H[a]? = some (vp_cell cA (n1, .inl g)) := hc1
  obtain ⟨-, k0, hk0, cm0, hkk0⟩ := (hK.1.2 t0 _ ht0).1 n0 (fun j => .int (f j))
  obtain ⟨-, k1, hk1, cm1, hkk1⟩ := (hK.1.2 t0 _ ht0).1 n1 (fun j => .int (g j))
  obtain ⟨vm', X', step⟩ := X.arraycopy hexec hown hlink hnat hstat hini (src := a0) (dst := a) (cs := vp_cell cA (n0, .inl f)) (cd := vp_cell cA (n1, .inl g)) (srcPos := sp) (destPos := dp) (n := n) (by rw [hT]; exact hc0) (by rw [hT]; exact hc1)
    (fun _ h => by cases h) (fun _ h => by cases h) (fun h => by cases h) (fun h => by cases h) hk0 hk1 hkk0 hkk1 (by simp [hprim]) h1 h2 h3
    (by rw [nn sp h1, nn n h3]; show ¬ _ > ((arrV cA n0 (fun j => .int (f j))).slots.size : Int); rw [arrV_size]; omega)
    (by rw [nn dp h2, nn n h3]; show ¬ _ > ((arrV cA n1 (fun j => .int (g j))).slots.size : Int); rw [arrV_size]; omega)
    (fun vm₁ _ i hi => by
      have e : (vp_cell cA (n0, .inl f)).slots.getD (sp.toNatClampNeg + i) .null = .int (f (sp.toNatClampNeg + i)) := by
        show (arrV cA n0 (fun j => .int (f j))).slots.getD _ _ = _
        rw [Array.getD_eq_getD_getElem?, arrV_read _ _ (by omega)]
        rfl
      refine ⟨?_, ?_⟩
      · rw [e, z1]
        exact hfit i (by omega)
      · rw [e]
        exact trivial)
    (g := F0 m pc ls (.int n :: .int dp :: .ref a :: .int sp :: .ref a0 :: rest)) rfl (by rw [hml]) (rest := rest) rfl (by rw [hb]; exact hdg) hframes (by show 2 * 0 + _ + _ ≤ _; omega)
  have e1 : copied (vp_cell cA (n0, .inl f)) (vp_cell cA (n1, .inl g)) sp dp n = vp_cell cA (n1, .inl g') := by
    refine (va_copied (fun z => .int z) cA cA f g (sp := sp.toNatClampNeg) (by omega)).trans ?_
    rw [z1, z2, z3]
    exact vp_cong hg
  rw [e1] at X' step
  have hl : a < H.size := (Array.getElem?_eq_some_iff.mp hc1).1
  have hheap : ((T.setVm vm').setCell a (vp_cell cA (n1, .inl g'))).heap = H.setIfInBounds a (vp_cell cA (n1, .inl g')) := by rw [← hT]; rfl
  have oq : ∀ q : Nat, q ≠ a → (H.setIfInBounds a (vp_cell cA (n1, .inl g')))[q]? = H[q]? := fun q hq => by simp [Array.getElem?_setIfInBounds, Ne.symm hq]
  obtain ⟨t, a1, b1⟩ := kk _ _ (hI.set (e := .inl (cA, n1, .inl g')) he1 (show (H.setIfInBounds a _)[a]? = some _ by simp [Array.getElem?_setIfInBounds, hl]) oq hset) ⟨by simp; exact hS.1, fun q g1 g2 => by
      rw [oq q (fun e => g2 (by rw [e]; exact hAa))]
      exact hS.2.1 q g1 g2, fun q hq => by
      rcases List.mem_append.mp hq with h | h
      · exact hS.2.2 q h
      · obtain ⟨z, -, hz⟩ := List.mem_map.mp h
        rw [← hz]
        exact hAa⟩ _ hheap X'
  exact ⟨t, step t a1, b1⟩
end NCOPY
/-- World.copy: the whole of one int array into another of its length -/
theorem k_X4_copy {l : Launch} {D : va_G} {A : Nat → Prop} {cf cf' : cmap} {i0 i1 a0 a1 n : Nat} {f g : Nat → Int32} (he0 : cf i0 = some (a0, .inl (D.1 100, n, .inl f))) (he1 : cf i1 = some (a1, .inl (D.1 100, n, .inl g))) (hn : n ≤ 1000) (hset : ∀ q, cf' q = if q = i1 then some (a1, .inl (D.1 100, n, .inl f)) else cf q) :
    Met l yX4_copy (ws_ yX4_copy cX4_copy 2 none) ({ frames := 1, cells := 0, slots := 0, locals := 40 } : Room) (va_Pc [.ref a0, .ref a1] (pI D cf A)) (nQ D cf' A none) 0 0 A := by
  refine met_I (by decide) rfl (Nat.le_of_ble_eq_true rfl) ?_
  intro p e s m below meth c ls hx hb hr hml hown hts hlocks hl hI hK
  have hl : lv_has ls 2 [(0, .ref a0), (1, .ref a1)] := hl
  have hS : va_S A s.heap s.heap [] := va_S.rf
  refine lv_aload_n hx hb dX4_copy_0 rfl (lv_at hl 0 rfl) ?_
  refine lv_iconst (v := 0) hx hb dX4_copy_1 (by decide) ?_
  refine lv_aload_n hx hb dX4_copy_2 rfl (lv_at hl 1 rfl) ?_
  refine lv_iconst (v := 0) hx hb dX4_copy_3 (by decide) ?_
  refine lv_aload_n hx hb dX4_copy_4 rfl (lv_at hl 1 rfl) ?_
  refine r_alen (v := nI n) hx hb hK hI he1 0 rfl rfl dX4_copy_5 ?_
  refine n_copy (cf' := cf') (σ := 0) (δ := 0) (ν := n) (g' := f) hx hb (by rw [hml]; exact hl.1.symm) hown (hts _ q783) (hts _ q785) (hts _ q784) (hts _ q110) hK hI hS 0 rfl rfl he0 he1 rfl rfl rfl (by omega) (by omega) hn hn (fun _ _ => rfl) (fun j hj => by rw [pk_cpy_in (by omega) (by omega)]; congr 1; omega) hset (Nat.le_of_ble_eq_true rfl) (Nat.le_of_ble_eq_true rfl) dX4_copy_6 (fun H1 locs1 hI hS => ?_)
  exact W.vret hx hb hr (fun t ht _ => ⟨rfl, by rw [ht]; exact hI, hS.F ht⟩) hS.2.2 dX4_copy_9
/-! rows of a world set whole -/
def ur (f : wd) (r : Nat) (g : Nat → Int32) : wd := fun r' => if r' = r then g else f r'
theorem ur_at (f : wd) (r : Nat) (g : Nat → Int32) : ur f r g r = g := if_pos rfl
theorem ur_ne {f : wd} {r r' : Nat} {g : Nat → Int32} (h : r' ≠ r) : ur f r g r' = f r' := if_neg h
section CU
variable {D : va_G} {L : Nat → Nat} {x : cst} {w r c : Nat} {g : Nat → Int32}
theorem cu_list (hw : w < 4) (q : Nat) : cfC D L (xs x w (ur (x.1 w) 0 g)) q = if q = 11 * w + 1 then some (L (11 * w + 1), .inl (D.1 100, 6, .inl g)) else cfC D L x q :=
  cs_cell hw (k := 1) (by decide) (by simp only [cw_w, ur_at]) (fun j hj hn => ww_ne _ _ _ 0 (fun r h => ur_ne h) hj (by match j, hj, hn with | 0, _, _ => decide | 2, _, _ => decide | 3, _, _ => decide | 4, _, _ => decide | 5, _, _ => decide | 6, _, _ => decide | 7, _, _ => decide | 8, _, _ => decide | 9, _, _ => decide | 10, _, _ => decide)) q
theorem cu_holds (hw : w < 4) (q : Nat) : cfC D L (xs x w (ur (x.1 w) 9 g)) q = if q = 11 * w + 10 then some (L (11 * w + 10), .inl (D.1 100, 10, .inl g)) else cfC D L x q :=
  cs_cell hw (k := 10) (by decide) (by simp only [cw_w, ur_at]) (fun j hj hn => ww_ne _ _ _ 9 (fun r h => ur_ne h) hj (by match j, hj, hn with | 0, _, _ => decide | 1, _, _ => decide | 2, _, _ => decide | 3, _, _ => decide | 4, _, _ => decide | 5, _, _ => decide | 6, _, _ => decide | 7, _, _ => decide | 8, _, _ => decide | 9, _, _ => decide | 10, _, hn => exact absurd rfl hn)) q
theorem cu_row (hw : w < 4) (hr : r < 7) (q : Nat) : cfC D L (xs x w (ur (x.1 w) (2 + r) g)) q = if q = 11 * w + 3 + r then some (L (11 * w + 3 + r), .inl (D.1 100, 8, .inl g)) else cfC D L x q := by
  rw [cs_cell hw (k := 3 + r) (by omega) (e := .inl (D.1 100, 8, .inl g))]
  · rw [Nat.add_assoc]
  · match r, hr with
    | 0, _ => simp only [cw_w]; rw [ur_at]
    | 1, _ => simp only [cw_w]; rw [ur_at]
    | 2, _ => simp only [cw_w]; rw [ur_at]
    | 3, _ => simp only [cw_w]; rw [ur_at]
    | 4, _ => simp only [cw_w]; rw [ur_at]
    | 5, _ => simp only [cw_w]; rw [ur_at]
    | 6, _ => simp only [cw_w]; rw [ur_at]
  · intro j hj hn
    refine ww_ne _ _ _ (2 + r) (fun r h => ur_ne h) hj ?_
    match j, hj, hn with
    | 0, _, _ => show 2 + r ≠ 1; omega
    | 1, _, _ => show 2 + r ≠ 0; omega
    | 2, _, _ => show 2 + r ≠ 100; omega
    | 3, _, _ => show 2 + r ≠ 2; omega
    | 4, _, _ => show 2 + r ≠ 3; omega
    | 5, _, _ => show 2 + r ≠ 4; omega
    | 6, _, _ => show 2 + r ≠ 5; omega
    | 7, _, _ => show 2 + r ≠ 6; omega
    | 8, _, _ => show 2 + r ≠ 7; omega
    | 9, _, _ => show 2 + r ≠ 8; omega
    | 10, _, _ => show 2 + r ≠ 9; omega
theorem cf_ext (hw : w < 4) {F G : wd} (h : ∀ r, r < 10 → r ≠ 1 → F r = G r) (h1 : ∀ c, c < 4 → F 1 c = G 1 c) : cfC D L (xs x w F) = cfC D L (xs x w G) := by
  funext q
  rw [cs_w hw, cs_w hw]
  by_cases hq : q / 11 = w
  · rw [if_pos hq, if_pos hq]
    have hk : q % 11 < 11 := Nat.mod_lt _ (by decide)
    generalize q % 11 = k at hk
    congr 2
    match k, hk with
    | 0, _ => simp only [cw_w]; rw [h1 0 (by decide), h1 1 (by decide), h1 2 (by decide), h1 3 (by decide)]
    | 1, _ => simp only [cw_w]; rw [h 0 (by decide) (by decide)]
    | 2, _ => rfl
    | 3, _ => simp only [cw_w]; rw [h (3 - 1) (by decide) (by decide)]
    | 4, _ => simp only [cw_w]; rw [h (4 - 1) (by decide) (by decide)]
    | 5, _ => simp only [cw_w]; rw [h (5 - 1) (by decide) (by decide)]
    | 6, _ => simp only [cw_w]; rw [h (6 - 1) (by decide) (by decide)]
    | 7, _ => simp only [cw_w]; rw [h (7 - 1) (by decide) (by decide)]
    | 8, _ => simp only [cw_w]; rw [h (8 - 1) (by decide) (by decide)]
    | 9, _ => simp only [cw_w]; rw [h (9 - 1) (by decide) (by decide)]
    | 10, _ => simp only [cw_w]; rw [h 9 (by decide) (by decide)]
  · rw [if_neg hq, if_neg hq]
end CU
def bcS (o : wd) (r : Nat) (g : wd) : wd := ur g (2 + r) (o (2 + r))
theorem bc_1 (o f : wd) (i r : Nat) (h : r < 2 ∨ 2 + i ≤ r) : itr (bcS o) f i r = f r := by
  induction i with
  | zero => rfl
  | succ i ih => rw [itr_s, bcS, ur_ne (by omega), ih (by omega)]
theorem bc_2 (o f : wd) (i r : Nat) (h : r < i) : itr (bcS o) f i (2 + r) = o (2 + r) := by
  induction i with
  | zero => omega
  | succ i ih =>
    rw [itr_s, bcS]
    by_cases hr : r = i
    · subst hr; rw [ur_at]
    · rw [ur_ne (by omega), ih (by omega)]
theorem bec_ext {D : va_G} {L : Nat → Nat} {x : cst} {w v : Nat} (hw : w < 4) : cfC D L (xs x w (ur (u2 (u2 (u2 (itr (bcS (x.1 v)) (u2 (ur (x.1 w) 0 (x.1 v 0)) 1 0 (x.1 v 1 0)) 7) 1 1 (x.1 v 1 1)) 1 2 (x.1 v 1 2)) 1 3 (x.1 v 1 3)) 9 (x.1 v 9))) = cfC D L (xs x w (x.1 v)) := by
  refine cf_ext hw (fun r hr h1 => ?_) (fun c hc => ?_)
  · by_cases h9 : r = 9
    · subst h9; rw [ur_at]
    · rw [ur_ne h9, u2_ne h1, u2_ne h1, u2_ne h1]
      by_cases h0 : r = 0
      · subst h0; rw [bc_1 _ _ _ _ (by omega), u2_ne (by decide), ur_at]
      · obtain ⟨q, rfl⟩ : ∃ q, r = 2 + q := ⟨r - 2, by omega⟩
        exact bc_2 _ _ _ _ (by omega)
  · rw [ur_ne (by decide)]
    match c, hc with
    | 0, _ => simp only [u2_at]; simp [bc_1, u2_at]
    | 1, _ => simp [u2_at]
    | 2, _ => simp [u2_at]
    | 3, _ => simp [u2_at]
theorem k_X4_saidIn {l : Launch} {D : va_G} {L : Nat → Nat} {A : Nat → Prop} (x : cst) (w : Nat) (hw4 : w < 4) (hO : wOk (x.1 w)) (room : Int32) : Met l yX4_saidIn (ws_ yX4_saidIn cX4_saidIn 7 (some .int)) ({ frames := 1, cells := 0, slots := 0, locals := 20 } : Room) (va_Pc [.ref (L (11 * w)), .int room] (pI D (cfC D L x) A)) (rQ (.int (siI (x.1 w) room))) 0 0 nof := by
  refine met_I (by decide) rfl (Nat.le_of_ble_eq_true rfl) ?_
  intro p e s m below meth c ls hx hb hr hml hown hts hlocks hl hI hK
  have F : CallFix p m c cX4_saidIn 7 s _ lw_all RX4 := ⟨hx, hb, hml, hown, hts⟩
  have hl : lv_has ls 7 [(0, .ref (L (11 * w))), (1, .int room)] := hl
  refine lv_iconst (v := 0) hx hb dX4_saidIn_0 (by decide) ?_
  refine lv_istore_n (lv' := [(2, .int 0), (0, .ref (L (11 * w))), (1, .int room)]) hx hb dX4_saidIn_1 rfl hl (by decide) rfl (fun ls hl => ?_)
  refine lv_aload_n hx hb dX4_saidIn_2 rfl (lv_at hl 1 rfl) ?_
  refine r_get (C := RX4) (T := TX4) (N := 7) hx hb hts in_X4 hown hK hI (cf_W (w := w) hw4) rfl 0 (by decide) (hts _ q223) (fun _ h => h) rfl dX4_saidIn_3 ?_
  refine lv_astore_n (lv' := [(3, .ref (L (11 * w + 1))), (2, .int 0), (0, .ref (L (11 * w))), (1, .int room)]) hx hb dX4_saidIn_6 rfl hl (by decide) rfl (fun ls hl => ?_)
  refine lv_aload_n hx hb dX4_saidIn_7 rfl (lv_at hl 0 rfl) ?_
  refine r_alen (v := 6) hx hb hK hI (cf_list (w := w) hw4) 0 rfl (rfl) dX4_saidIn_8 ?_
  refine lv_istore (lv' := [(4, .int 6), (3, .ref (L (11 * w + 1))), (2, .int 0), (0, .ref (L (11 * w))), (1, .int room)]) hx hb dX4_saidIn_9 hl (by decide) rfl (fun ls hl => ?_)
  refine lv_iconst (v := 0) hx hb dX4_saidIn_11 (by decide) ?_
  refine lv_istore (lv' := [(5, .int 0), (4, .int 6), (3, .ref (L (11 * w + 1))), (2, .int 0), (0, .ref (L (11 * w))), (1, .int room)]) hx hb dX4_saidIn_12 hl (by decide) rfl (fun ls hl => ?_)
  have lp14 : ∀ (fuel : Nat) (i : Nat), (i ≤ 6) → 6 - i < fuel → ∀ (v2 : Int32) (v5 : Int32), v2 = itr (siS (x.1 w) room) 0 i → v5 = nI i → ∀ (ls : Array Slot), lv_has ls 7 [(0, .ref (L (11 * w))), (1, .int room), (2, .int v2), (3, .ref (L (11 * w + 1))), (4, .int 6), (5, .int v5)] → W p l e ({ frames := 1, cells := 0, slots := 0, locals := 20 } : Room) s m ([.ref (L (11 * w)), .int room] : List Value).toArray below meth c s.heap [] 0 0 (MQ below (rQ (.int (siI (x.1 w) room))) ([.ref (L (11 * w)), .int room] : List Value).toArray s 0 0 nof) (F0 m 14 ls []) := by
    intro fuel
    induction fuel with
    | zero => intro i hi hf; exact absurd hf (Nat.not_lt_zero _)
    | succ fuel ih14 =>
      intro i hi hf14 v2 v5 e2 e5  ls hl
      subst e2 e5
      refine lv_iload hx hb dX4_saidIn_14 (lv_at hl 5 rfl) ?_
      refine lv_iload hx hb dX4_saidIn_16 (lv_at hl 4 rfl) ?_
      refine lv_icmp_ge (tgt := 56) hx hb dX4_saidIn_18 (by decide) (fun c_18 => ?_) (fun c_18 => ?_)
      · skip
        have c_18 : 6 ≤ i := (nle (a := 6) (b := i) (rfl) (rfl) (by omega) (by omega)).mp c_18
        refine lv_iload_n hx hb dX4_saidIn_56 rfl (lv_at hl 2 rfl) ?_
        exact W.iret hx hb hr (fun t ht _ => ⟨rI (by rw [siI, show i = 6 by omega]), ht⟩) (fun q h => by cases h) dX4_saidIn_57
      · skip
        have c_18 : ¬ 6 ≤ i := fun z => c_18 ((nle (a := 6) (b := i) (rfl) (rfl) (by omega) (by omega)).mpr z)
        refine lv_aload_n hx hb dX4_saidIn_21 rfl (lv_at hl 3 rfl) ?_
        refine lv_iload hx hb dX4_saidIn_22 (lv_at hl 5 rfl) ?_
        refine n_iald (k := i) hx hb hK hI (cf_list (w := w) hw4) (rfl) (by omega) (by decide) dX4_saidIn_24 ?_
        refine lv_istore (lv' := [(6, .int (x.1 w 0 i)), (0, .ref (L (11 * w))), (1, .int room), (2, .int (itr (siS (x.1 w) room) 0 i)), (3, .ref (L (11 * w + 1))), (4, .int 6), (5, .int (nI i))]) hx hb dX4_saidIn_25 hl (by decide) rfl (fun ls hl => ?_)
        refine lv_iload_n hx hb dX4_saidIn_27 rfl (lv_at hl 3 rfl) ?_
        refine lv_iload hx hb dX4_saidIn_28 (lv_at hl 0 rfl) ?_
        refine c_r (k_SN (As := [.int (x.1 w 0 i)]) (rest := [.int (itr (siS (x.1 w) room) 0 i)]) F (k_X0_roomOf (x.1 w 0 i)) ⟨va_cnB 1 hts (lw_meth q447) rfl rfl rfl (nm_4 hK) (hts _ q91) (by decide +kernel) ⟨Nat.le_of_ble_eq_true rfl, Nat.le_of_ble_eq_true rfl⟩, hts _ q446, trivial⟩ rfl hl.1 rfl (Nat.le_of_ble_eq_true rfl) dX4_saidIn_30 ⟨Nat.le_of_ble_eq_true rfl, Nat.le_of_ble_eq_true rfl⟩) ?_
        refine lv_iload_n hx hb dX4_saidIn_33 rfl (lv_at hl 2 rfl) ?_
        refine lv_icmp_ne (tgt := 47) hx hb dX4_saidIn_34 (by decide) (fun c_34 => ?_) (fun c_34 => ?_)
        · skip
          refine lv_iconst (v := 0) hx hb dX4_saidIn_47 (by decide) ?_
          refine lv_ior hx hb dX4_saidIn_48 ?_
          refine lv_istore_n (lv' := [(2, .int ((itr (siS (x.1 w) room) 0 i) ||| (0 : Int32))), (6, .int (x.1 w 0 i)), (0, .ref (L (11 * w))), (1, .int room), (3, .ref (L (11 * w + 1))), (4, .int 6), (5, .int (nI i))]) hx hb dX4_saidIn_49 rfl hl (by decide) rfl (fun ls hl => ?_)
          refine lv_iinc (v := (nI (i + 1))) (lv' := [(5, .int (nI (i + 1))), (2, .int ((itr (siS (x.1 w) room) 0 i) ||| (0 : Int32))), (6, .int (x.1 w 0 i)), (0, .ref (L (11 * w))), (1, .int room), (3, .ref (L (11 * w + 1))), (4, .int 6)]) hx hb dX4_saidIn_50 hl (k := 6) rfl (nI_1 _) (by decide) rfl (fun ls hl => ?_)
          refine lv_goto (tgt := 14) hx hb dX4_saidIn_53 (by decide) ?_
          exact ih14 (i + 1) (by omega) (by omega) ((itr (siS (x.1 w) room) 0 i) ||| (0 : Int32)) (nI (i + 1)) (by rw [itr_s]; simp [siS, c_18, c_34]) (rfl) ls (lv_sub hl [3, 4, 1, 5, 6, 0] rfl)
        · skip
          refine lv_iconst (v := 1) hx hb dX4_saidIn_37 (by decide) ?_
          refine lv_iload hx hb dX4_saidIn_38 (lv_at hl 0 rfl) ?_
          refine c_r (k_SN (As := [.int (x.1 w 0 i)]) (rest := [.int 1, .int (itr (siS (x.1 w) room) 0 i)]) F (k_X0_topicOf (x.1 w 0 i)) ⟨va_cnB 1 hts (lw_meth q453) rfl rfl rfl (nm_5 hK) (hts _ q91) (by decide +kernel) ⟨Nat.le_of_ble_eq_true rfl, Nat.le_of_ble_eq_true rfl⟩, hts _ q452, trivial⟩ rfl hl.1 rfl (Nat.le_of_ble_eq_true rfl) dX4_saidIn_40 ⟨Nat.le_of_ble_eq_true rfl, Nat.le_of_ble_eq_true rfl⟩) ?_
          refine lv_ishl hx hb dX4_saidIn_43 ?_
          refine lv_goto (tgt := 48) hx hb dX4_saidIn_44 (by decide) ?_
          refine lv_ior hx hb dX4_saidIn_48 ?_
          refine lv_istore_n (lv' := [(2, .int ((itr (siS (x.1 w) room) 0 i) ||| ((1 : Int32) <<< ((tpI (x.1 w 0 i)) &&& 31)))), (6, .int (x.1 w 0 i)), (0, .ref (L (11 * w))), (1, .int room), (3, .ref (L (11 * w + 1))), (4, .int 6), (5, .int (nI i))]) hx hb dX4_saidIn_49 rfl hl (by decide) rfl (fun ls hl => ?_)
          refine lv_iinc (v := (nI (i + 1))) (lv' := [(5, .int (nI (i + 1))), (2, .int ((itr (siS (x.1 w) room) 0 i) ||| ((1 : Int32) <<< ((tpI (x.1 w 0 i)) &&& 31)))), (6, .int (x.1 w 0 i)), (0, .ref (L (11 * w))), (1, .int room), (3, .ref (L (11 * w + 1))), (4, .int 6)]) hx hb dX4_saidIn_50 hl (k := 6) rfl (nI_1 _) (by decide) rfl (fun ls hl => ?_)
          refine lv_goto (tgt := 14) hx hb dX4_saidIn_53 (by decide) ?_
          exact ih14 (i + 1) (by omega) (by omega) ((itr (siS (x.1 w) room) 0 i) ||| ((1 : Int32) <<< ((tpI (x.1 w 0 i)) &&& 31))) (nI (i + 1)) (by rw [itr_s]; simp [siS, c_18, c_34]) (rfl) ls (lv_sub hl [3, 4, 1, 5, 6, 0] rfl)
  exact lp14 (_ + 1) (0) (Nat.zero_le _) (Nat.lt_succ_self _) 0 0 (rfl) (rfl) ls (lv_sub hl [4, 5, 3, 2, 1, 0] rfl)
theorem k_X4_become {l : Launch} {D : va_G} {L : Nat → Nat} {A : Nat → Prop} (x : cst) (w : Nat) (hw4 : w < 4) (v : Nat) (hv4 : v < 4) (hne : v ≠ w) : Met l yX4_become (ws_ yX4_become cX4_become 3 none) ({ frames := 2, cells := 0, slots := 0, locals := 61 } : Room) (va_Pc [.ref (L (11 * w)), .ref (L (11 * v))] (pI D (cfC D L x) A)) (nQ D (cfC D L (xs x w (x.1 v))) A none) 0 0 A := by
  refine met_I (by decide) rfl (Nat.le_of_ble_eq_true rfl) ?_
  intro p e s m below meth c ls hx hb hr hml hown hts hlocks hl hI hK
  have F : CallFix p m c cX4_become 3 s _ lw_all RX4 := ⟨hx, hb, hml, hown, hts⟩
  have hl : lv_has ls 3 [(0, .ref (L (11 * w))), (1, .ref (L (11 * v)))] := hl
  have hS : va_S A s.heap s.heap [] := va_S.rf
  refine lv_aload_n hx hb dX4_become_0 rfl (lv_at hl 1 rfl) ?_
  refine r_get (C := RX4) (T := TX4) (N := 7) hx hb hts in_X4 hown hK hI (cf_W (w := v) hv4) rfl 0 (by decide) (hts _ q223) (fun _ h => h) rfl dX4_become_1 ?_
  refine lv_aload_n hx hb dX4_become_4 rfl (lv_at hl 0 rfl) ?_
  refine r_get (C := RX4) (T := TX4) (N := 7) hx hb hts in_X4 hown hK hI (cf_W (w := w) hw4) rfl 0 (by decide) (hts _ q223) (fun _ h => h) rfl dX4_become_5 ?_
  refine c_m (k_SI (As := [.ref (L (11 * v + 1)), .ref (L (11 * w + 1))]) (rest := []) F (k_X4_copy (cf' := cfC D L (xs x w (ur (x.1 w) 0 ((x.1 v) 0)))) (cf_list (w := v) hv4) (cf_list (w := w) hw4) (by decide) (cu_list (w := w) hw4)) (va_cwS 2 hts (lw_S q780 q781 q98 q782) rfl rfl rfl (by decide +kernel) ⟨Nat.le_of_ble_eq_true rfl, Nat.le_of_ble_eq_true rfl⟩) hI hK rfl hl.1 rfl (Nat.le_of_ble_eq_true rfl) dX4_become_8 ⟨Nat.le_of_ble_eq_true rfl, Nat.le_of_ble_eq_true rfl⟩) hS (fun H1 locs1 hI hS => ?_)
  obtain ⟨x1, ex1⟩ : ∃ z, z = xs x w (ur (x.1 w) 0 ((x.1 v) 0)) := ⟨_, rfl⟩
  rw [← ex1] at hI
  refine lv_aload_n hx hb dX4_become_11 rfl (lv_at hl 0 rfl) ?_
  refine lv_aload_n hx hb dX4_become_12 rfl (lv_at hl 1 rfl) ?_
  refine r_get (C := RX4) (T := TX4) (N := 7) hx hb hts in_X4 hown hK hI (cf_W (w := v) hv4) rfl 1 (by decide) (hts _ q226) (fun _ h => h) rfl dX4_become_13 ?_
  obtain ⟨x2, ex2⟩ : ∃ z, z = xs x1 w (u2 (x1.1 w) 1 0 (x1.1 v 1 0)) := ⟨_, rfl⟩
  refine r_put (C := RX4) (T := TX4) (N := 7) (cf' := cfC D L x2) hx hb hts in_X4 tyX4 tyX4_ok nmX4 hown hK hI hS (cf_W (w := w) hw4) rfl 1 (by decide) (hts _ q226) (fun _ h => h) rfl (ty := .int) (by decide +kernel) rfl rfl (Nat.le_of_ble_eq_true rfl) (by rw [ex2]; exact cs_sc (w := w) hw4 (by decide) rfl) dX4_become_16 (fun H1 locs1 hI hS => ?_)
  refine lv_iconst (v := 0) hx hb dX4_become_19 (by decide) ?_
  refine lv_istore_n (lv' := [(2, .int 0), (0, .ref (L (11 * w))), (1, .ref (L (11 * v)))]) hx hb dX4_become_20 rfl hl (by decide) rfl (fun ls hl => ?_)
  have lp21 : ∀ (fuel : Nat) (i : Nat), (i ≤ 7) → 7 - i < fuel → ∀ (v2 : Int32), v2 = nI i → ∀ (xc21 : cst), xc21 = xs x w (itr (bcS (x.1 v)) (u2 (ur (x.1 w) 0 (x.1 v 0)) 1 0 (x.1 v 1 0)) i) → ∀ (H : Heap) (locs : List Loc), hw D (cfC D L xc21) A H → va_S A s.heap H locs → ∀ (ls : Array Slot), lv_has ls 3 [(0, .ref (L (11 * w))), (1, .ref (L (11 * v))), (2, .int v2)] → W p l e ({ frames := 2, cells := 0, slots := 0, locals := 61 } : Room) s m ([.ref (L (11 * w)), .ref (L (11 * v))] : List Value).toArray below meth c H locs 0 0 (MQ below (nQ D (cfC D L (xs x w (x.1 v))) A none) ([.ref (L (11 * w)), .ref (L (11 * v))] : List Value).toArray s 0 0 A) (F0 m 21 ls []) := by
    intro fuel
    induction fuel with
    | zero => intro i hi hf; exact absurd hf (Nat.not_lt_zero _)
    | succ fuel ih21 =>
      intro i hi hf21 v2 e2  xc21 exc21 H locs hI hS ls hl
      subst e2
      refine lv_iload_n hx hb dX4_become_21 rfl (lv_at hl 2 rfl) ?_
      refine lv_bipush (v := 7) hx hb dX4_become_22 (by decide) ?_
      refine lv_icmp_ge (tgt := 48) hx hb dX4_become_24 (by decide) (fun c_24 => ?_) (fun c_24 => ?_)
      · skip
        have c_24 : 7 ≤ i := (nle (a := 7) (b := i) (rfl) (rfl) (by omega) (by omega)).mp c_24
        refine lv_aload_n hx hb dX4_become_48 rfl (lv_at hl 0 rfl) ?_
        refine lv_aload_n hx hb dX4_become_49 rfl (lv_at hl 1 rfl) ?_
        refine r_get (C := RX4) (T := TX4) (N := 7) hx hb hts in_X4 hown hK hI (cf_W (w := v) hv4) rfl 3 (by decide) (hts _ q233) (fun _ h => h) rfl dX4_become_50 ?_
        obtain ⟨x3, ex3⟩ : ∃ z, z = xs xc21 w (u2 (xc21.1 w) 1 1 (xc21.1 v 1 1)) := ⟨_, rfl⟩
        refine r_put (C := RX4) (T := TX4) (N := 7) (cf' := cfC D L x3) hx hb hts in_X4 tyX4 tyX4_ok nmX4 hown hK hI hS (cf_W (w := w) hw4) rfl 3 (by decide) (hts _ q233) (fun _ h => h) rfl (ty := .int) (by decide +kernel) rfl rfl (Nat.le_of_ble_eq_true rfl) (by rw [ex3]; exact cs_sc (w := w) hw4 (by decide) rfl) dX4_become_53 (fun H1 locs1 hI hS => ?_)
        refine lv_aload_n hx hb dX4_become_56 rfl (lv_at hl 0 rfl) ?_
        refine lv_aload_n hx hb dX4_become_57 rfl (lv_at hl 1 rfl) ?_
        refine r_get (C := RX4) (T := TX4) (N := 7) hx hb hts in_X4 hown hK hI (cf_W (w := v) hv4) rfl 4 (by decide) (hts _ q235) (fun _ h => h) rfl dX4_become_58 ?_
        obtain ⟨x4, ex4⟩ : ∃ z, z = xs x3 w (u2 (x3.1 w) 1 2 (x3.1 v 1 2)) := ⟨_, rfl⟩
        refine r_put (C := RX4) (T := TX4) (N := 7) (cf' := cfC D L x4) hx hb hts in_X4 tyX4 tyX4_ok nmX4 hown hK hI hS (cf_W (w := w) hw4) rfl 4 (by decide) (hts _ q235) (fun _ h => h) rfl (ty := .int) (by decide +kernel) rfl rfl (Nat.le_of_ble_eq_true rfl) (by rw [ex4]; exact cs_sc (w := w) hw4 (by decide) rfl) dX4_become_61 (fun H1 locs1 hI hS => ?_)
        refine lv_aload_n hx hb dX4_become_64 rfl (lv_at hl 0 rfl) ?_
        refine lv_aload_n hx hb dX4_become_65 rfl (lv_at hl 1 rfl) ?_
        refine r_get (C := RX4) (T := TX4) (N := 7) hx hb hts in_X4 hown hK hI (cf_W (w := v) hv4) rfl 5 (by decide) (hts _ q237) (fun _ h => h) rfl dX4_become_66 ?_
        obtain ⟨x5, ex5⟩ : ∃ z, z = xs x4 w (u2 (x4.1 w) 1 3 (x4.1 v 1 3)) := ⟨_, rfl⟩
        refine r_put (C := RX4) (T := TX4) (N := 7) (cf' := cfC D L x5) hx hb hts in_X4 tyX4 tyX4_ok nmX4 hown hK hI hS (cf_W (w := w) hw4) rfl 5 (by decide) (hts _ q237) (fun _ h => h) rfl (ty := .int) (by decide +kernel) rfl rfl (Nat.le_of_ble_eq_true rfl) (by rw [ex5]; exact cs_sc (w := w) hw4 (by decide) rfl) dX4_become_69 (fun H1 locs1 hI hS => ?_)
        refine lv_aload_n hx hb dX4_become_72 rfl (lv_at hl 1 rfl) ?_
        refine r_get (C := RX4) (T := TX4) (N := 7) hx hb hts in_X4 hown hK hI (cf_W (w := v) hv4) rfl 6 (by decide) (hts _ q239) (fun _ h => h) rfl dX4_become_73 ?_
        refine lv_aload_n hx hb dX4_become_76 rfl (lv_at hl 0 rfl) ?_
        refine r_get (C := RX4) (T := TX4) (N := 7) hx hb hts in_X4 hown hK hI (cf_W (w := w) hw4) rfl 6 (by decide) (hts _ q239) (fun _ h => h) rfl dX4_become_77 ?_
        refine c_m (k_SI (As := [.ref (L (11 * v + 10)), .ref (L (11 * w + 10))]) (rest := []) F (k_X4_copy (cf' := cfC D L (xs x5 w (ur (x5.1 w) 9 ((x5.1 v) 9)))) (cf_holds (w := v) hv4) (cf_holds (w := w) hw4) (by decide) (cu_holds (w := w) hw4)) (va_cwS 2 hts (lw_S q780 q781 q98 q782) rfl rfl rfl (by decide +kernel) ⟨Nat.le_of_ble_eq_true rfl, Nat.le_of_ble_eq_true rfl⟩) hI hK rfl hl.1 rfl (Nat.le_of_ble_eq_true rfl) dX4_become_80 ⟨Nat.le_of_ble_eq_true rfl, Nat.le_of_ble_eq_true rfl⟩) hS (fun H1 locs1 hI hS => ?_)
        obtain ⟨x6, ex6⟩ : ∃ z, z = xs x5 w (ur (x5.1 w) 9 ((x5.1 v) 9)) := ⟨_, rfl⟩
        rw [← ex6] at hI
        exact W.vret hx hb hr (fun t ht _ => ⟨rfl, by rw [ht]; exact hw_eq hI (by subst ex6 ex5 ex4 ex3 exc21; simp only [xs_xs, xs_at, xs_ne hne]; rw [show i = 7 by omega]; exact bec_ext hw4), hS.F ht⟩) hS.2.2 dX4_become_83
      · skip
        have c_24 : ¬ 7 ≤ i := fun z => c_24 ((nle (a := 7) (b := i) (rfl) (rfl) (by omega) (by omega)).mpr z)
        refine lv_aload_n hx hb dX4_become_27 rfl (lv_at hl 1 rfl) ?_
        refine r_get (C := RX4) (T := TX4) (N := 7) hx hb hts in_X4 hown hK hI (cf_W (w := v) hv4) rfl 2 (by decide) (hts _ q229) (fun _ h => h) rfl dX4_become_28 ?_
        refine lv_iload_n hx hb dX4_become_31 rfl (lv_at hl 2 rfl) ?_
        refine n_aaldI (f := fun r => L (11 * v + 3 + r)) (k := i) hx hb hK hI (cf_glove (w := v) hv4) (rfl) (by omega) (by decide) dX4_become_32 ?_
        refine lv_aload_n hx hb dX4_become_33 rfl (lv_at hl 0 rfl) ?_
        refine r_get (C := RX4) (T := TX4) (N := 7) hx hb hts in_X4 hown hK hI (cf_W (w := w) hw4) rfl 2 (by decide) (hts _ q229) (fun _ h => h) rfl dX4_become_34 ?_
        refine lv_iload_n hx hb dX4_become_37 rfl (lv_at hl 2 rfl) ?_
        refine n_aaldI (f := fun r => L (11 * w + 3 + r)) (k := i) hx hb hK hI (cf_glove (w := w) hw4) (rfl) (by omega) (by decide) dX4_become_38 ?_
        refine c_m (k_SI (As := [.ref (L (11 * v + 3 + i)), .ref (L (11 * w + 3 + i))]) (rest := []) F (k_X4_copy (cf' := cfC D L (xs xc21 w (ur (xc21.1 w) (2 + i) ((xc21.1 v) (2 + i))))) (cf_row (w := v) (r := i) hv4 (by omega)) (cf_row (w := w) (r := i) hw4 (by omega)) (by decide) (cu_row (w := w) (r := i) hw4 (by omega))) (va_cwS 2 hts (lw_S q780 q781 q98 q782) rfl rfl rfl (by decide +kernel) ⟨Nat.le_of_ble_eq_true rfl, Nat.le_of_ble_eq_true rfl⟩) hI hK rfl hl.1 rfl (Nat.le_of_ble_eq_true rfl) dX4_become_39 ⟨Nat.le_of_ble_eq_true rfl, Nat.le_of_ble_eq_true rfl⟩) hS (fun H1 locs1 hI hS => ?_)
        obtain ⟨x7, ex7⟩ : ∃ z, z = xs xc21 w (ur (xc21.1 w) (2 + i) ((xc21.1 v) (2 + i))) := ⟨_, rfl⟩
        rw [← ex7] at hI
        refine lv_iinc (v := (nI (i + 1))) (lv' := [(2, .int (nI (i + 1))), (0, .ref (L (11 * w))), (1, .ref (L (11 * v)))]) hx hb dX4_become_42 hl (k := 2) rfl (nI_1 _) (by decide) rfl (fun ls hl => ?_)
        refine lv_goto (tgt := 21) hx hb dX4_become_45 (by decide) ?_
        exact ih21 (i + 1) (by omega) (by omega) (nI (i + 1)) (rfl) x7 (by subst ex7 exc21; simp only [xs_xs, xs_at, xs_ne hne]; rfl) _ _ hI hS ls (lv_sub hl [1, 2, 0] rfl)
  exact lp21 (_ + 1) (0) (Nat.zero_le _) (Nat.lt_succ_self _) 0 (rfl) x2 (by subst ex2 ex1; simp only [xs_xs, xs_at, xs_ne hne]; rfl) _ _ hI hS ls (lv_sub hl [1, 2, 0] rfl)
