/-! the component's sheets are made -/
def cdel (cf : cmap) (i : Nat) : cmap := fun j => if j = i then none else cf j
theorem hw.del {D : va_G} {cf : cmap} {A : Nat → Prop} {H : Heap} (h : hw D cf A H) (i : Nat) : hw D (cdel cf i) A H := by
  have key : ∀ j a e, cdel cf i j = some (a, e) → cf j = some (a, e) := by
    intro j a e he
    unfold cdel at he
    by_cases hj : j = i
    · rw [if_pos hj] at he; cases he
    · rw [if_neg hj] at he; exact he
  exact ⟨fun j a e he => h.1 j a e (key j a e he), fun j k a e e' h1 h2 => h.2 j k a e e' (key j a e h1) (key k a e' h2)⟩
theorem cs_shn {D : va_G} {L : Nat → Nat} {x : cst} {k : Nat} (hk : k < 4) (v : Option (Nat × Nat × Nat × (Nat → Int32))) (q : Nat) : cfC D L (xsh x k v) q = if q = 63 + k then some (L (63 + k), .inr (5, [va_rf (v.map (·.1))])) else if q = 179 + k then v.map (fun q => (q.1, .inl (D.1 (shc q.2.1), q.2.2.1, .inl q.2.2.2))) else cfC D L x q := by
  by_cases h1 : q = 63 + k
  · rw [if_pos h1, h1, cf_shsl hk, xsh_at]
  · rw [if_neg h1]
    by_cases h2 : q = 179 + k
    · rw [if_pos h2, h2]
      unfold cfC
      rw [if_neg (by omega), if_neg (by omega), if_pos (by omega), show 179 + k - 179 = k by omega, xsh_at]
    · rw [if_neg h2]
      unfold cfC
      by_cases h3 : q < 44
      · rw [if_pos h3, if_pos h3]; rfl
      · rw [if_neg h3, if_neg h3]
        by_cases h4 : q < 179
        · rw [if_pos h4, if_pos h4]
          refine congrArg some (congrArg (Prod.mk (L q)) ?_)
          unfold cw_o
          by_cases h5 : q < 63
          · simp only [if_pos h5]; rfl
          · rw [xsh_ne (show q - 63 ≠ k by omega)]; rfl
        · rw [if_neg h4, if_neg h4]
          by_cases h5 : q < 183
          · rw [if_pos h5, if_pos h5, xsh_ne (show q - 179 ≠ k by omega)]
          · rw [if_neg h5, if_neg h5]
def shP (x : cst) (s : Int32) : Nat ⊕ (Int32 × shv) → cst → Prop
  | .inl k, x' => x' = fnd x k
  | .inr q, x' => ∃ a, x' = xsh x s.toNatClampNeg (q.2.map (fun z => (a, z.1, z.2.1, z.2.2)))
set_option maxHeartbeats 1000000 in
theorem n_X0_sheet {l : Launch} {D : va_G} {L : Nat → Nat} {A : Nat → Prop} {z : Value × Value} (x : cst) (s0 b0 n : Int32) : Met l yX0_sheet (ws_ yX0_sheet cX0_sheet 4 (some .int)) ({ frames := 2, cells := 1, slots := 40, locals := 42 } : Room) (va_Pc [.ref (L 44), .int s0, .int b0, .int n] (pN D (cfC D L x) A z)) (vQ D A (fun ov cf' => ov = some (.int (aS (a_sheet s0 b0 n))) ∧ ∃ x', cf' = cfC D L x' ∧ shP x s0 (a_sheet s0 b0 n) x')) 1 40 A := by
  refine met_N (by decide) rfl (Nat.le_of_ble_eq_true rfl) ?_
  intro p e s m below meth c ls hx hb hr hml hown hts hlocks hl hI hK hX hin
  have F : CallFix p m c cX0_sheet 4 s _ lw_all RX0 := ⟨hx, hb, hml, hown, hts⟩
  have hl : lv_has ls 4 [(0, .ref (L 44)), (1, .int s0), (2, .int b0), (3, .int n)] := hl
  have hS : va_S A s.heap s.heap [] := va_S.rf
  have hA := hX.2.2.2.2
  have ret_f : ∀ (k : Nat) (H : Heap) (locs : List Loc) (pc : Nat), a_sheet s0 b0 n = .inl k → hw D (cfC D L (fnd x k)) A H → va_S A s.heap H locs → decode cX0_sheet pc = .ok (.ireturn, 1) → W p l e ({ frames := 2, cells := 1, slots := 40, locals := 42 } : Room) s m ([.ref (L 44), .int s0, .int b0, .int n] : List Value).toArray below meth c H locs 0 0 (MQ below (vQ D A (fun ov cf' => ov = some (.int (aS (a_sheet s0 b0 n))) ∧ ∃ x', cf' = cfC D L x' ∧ shP x s0 (a_sheet s0 b0 n) x')) ([.ref (L 44), .int s0, .int b0, .int n] : List Value).toArray s 1 40 A) (F0 m pc ls [.int (-1000001 - nI k)]) := by
    intro k H locs pc ea hI hS hd
    refine W.widen (k := 1) (n := 40) (Nat.le_of_ble_eq_true rfl) (Nat.le_of_ble_eq_true rfl) ?_
    exact W.iret hx hb hr (fun t ht _ => ⟨⟨_, _, rfl, ⟨by rw [ea]; rfl, _, rfl, by rw [ea]; exact rfl⟩, by rw [ht]; exact hI⟩, hS.F ht⟩) hS.2.2 hd
  have at29 : a_sheet s0 b0 n = .inl 0 → W p l e ({ frames := 2, cells := 1, slots := 40, locals := 42 } : Room) s m ([.ref (L 44), .int s0, .int b0, .int n] : List Value).toArray below meth c s.heap [] 0 0 (MQ below (vQ D A (fun ov cf' => ov = some (.int (aS (a_sheet s0 b0 n))) ∧ ∃ x', cf' = cfC D L x' ∧ shP x s0 (a_sheet s0 b0 n) x')) ([.ref (L 44), .int s0, .int b0, .int n] : List Value).toArray s 1 40 A) (F0 m 29 ls []) := by
    intro ea
    refine lv_aload_n hx hb dX0_sheet_29 rfl (lv_at hl 0 rfl) ?_
    refine lv_iconst (v := 0) hx hb dX0_sheet_30 (by decide) ?_
    refine c_m (k_V (As := [.int 0]) (rest := []) F (k_X0_finding x 0 (by decide)) (cwV 1 hts (lw_V q457 q459 qs2 q91 q460) rfl rfl rfl (by decide +kernel) ⟨Nat.le_of_ble_eq_true rfl, Nat.le_of_ble_eq_true rfl⟩) hI hK (hw.recv hI hK (cf_main) rfl) rfl hl.1 rfl (Nat.le_of_ble_eq_true rfl) dX0_sheet_31 ⟨Nat.le_of_ble_eq_true rfl, Nat.le_of_ble_eq_true rfl⟩) hS (fun H1 locs1 hI hS => ?_)
    exact ret_f 0 _ _ 34 ea hI hS dX0_sheet_34
  refine lv_iload_n hx hb dX0_sheet_0 rfl (lv_at hl 1 rfl) ?_
  refine c_r (k_S (As := [.int s0]) (rest := []) F (k_X0_isSheet s0) (va_cwS 1 hts (lw_S q882 q883 q91 q884) rfl rfl rfl (by decide +kernel) ⟨Nat.le_of_ble_eq_true rfl, Nat.le_of_ble_eq_true rfl⟩) rfl hl.1 rfl (Nat.le_of_ble_eq_true rfl) dX0_sheet_1 ⟨Nat.le_of_ble_eq_true rfl, Nat.le_of_ble_eq_true rfl⟩) ?_
  refine lv_if_eq (tgt := 29) hx hb dX0_sheet_4 (by decide) (fun c_4 => ?_) (fun c_4 => ?_)
  · exact at29 (by unfold a_sheet; rw [if_pos c_4])
  · obtain ⟨k, hk, es⟩ := inI_to (b := 3) rfl (by decide) c_4
    subst es
    have hk4 : k < 4 := by omega
    have ek : (nI k).toNatClampNeg = k := nI_clamp (by omega)
    have at35 : (b0 = 0 ∨ b0 = 8 ∨ b0 = 16 ∨ b0 = 32) → W p l e ({ frames := 2, cells := 1, slots := 40, locals := 42 } : Room) s m ([.ref (L 44), .int (nI k), .int b0, .int n] : List Value).toArray below meth c s.heap [] 0 0 (MQ below (vQ D A (fun ov cf' => ov = some (.int (aS (a_sheet (nI k) b0 n))) ∧ ∃ x', cf' = cfC D L x' ∧ shP x (nI k) (a_sheet (nI k) b0 n) x')) ([.ref (L 44), .int (nI k), .int b0, .int n] : List Value).toArray s 1 40 A) (F0 m 35 ls []) := by
      intro hb0
      have ha : a_sheet (nI k) b0 n = if n < 0 then .inl 6 else if 40 < n then .inl 0 else if b0 = 0 then .inr (0, none) else .inr (n, some (if b0 = 8 then 0 else if b0 = 16 then 1 else 2, n.toNatClampNeg, fun _ => 0)) := by
        unfold a_sheet
        rw [if_neg c_4, if_pos hb0]
      refine lv_iload_n hx hb dX0_sheet_35 rfl (lv_at hl 3 rfl) ?_
      refine lv_if_lt (tgt := 45) hx hb dX0_sheet_36 (by decide) (fun c_36 => ?_) (fun c_36 => ?_)
      · refine lv_aload_n hx hb dX0_sheet_45 rfl (lv_at hl 0 rfl) ?_
        refine lv_iload_n hx hb dX0_sheet_46 rfl (lv_at hl 3 rfl) ?_
        refine lv_if_ge (tgt := 55) hx hb dX0_sheet_47 (by decide) (fun h => absurd c_36 (Int32.not_lt.mpr h)) (fun _ => ?_)
        refine lv_bipush (v := 6) hx hb dX0_sheet_50 (by decide) ?_
        refine lv_goto (tgt := 56) hx hb dX0_sheet_52 (by decide) ?_
        refine c_m (k_V (As := [.int 6]) (rest := []) F (k_X0_finding x 6 (by decide)) (cwV 1 hts (lw_V q457 q459 qs2 q91 q460) rfl rfl rfl (by decide +kernel) ⟨Nat.le_of_ble_eq_true rfl, Nat.le_of_ble_eq_true rfl⟩) hI hK (hw.recv hI hK (cf_main) rfl) rfl hl.1 rfl (Nat.le_of_ble_eq_true rfl) dX0_sheet_56 ⟨Nat.le_of_ble_eq_true rfl, Nat.le_of_ble_eq_true rfl⟩) hS (fun H1 locs1 hI hS => ?_)
        exact ret_f 6 _ _ 59 (by rw [ha, if_pos c_36]) hI hS dX0_sheet_59
      · refine lv_iload_n hx hb dX0_sheet_39 rfl (lv_at hl 3 rfl) ?_
        refine lv_bipush (v := 40) hx hb dX0_sheet_40 (by decide) ?_
        refine lv_icmp_le (tgt := 60) hx hb dX0_sheet_42 (by decide) (fun c_42 => ?_) (fun c_42 => ?_)
        · obtain ⟨q, hq, en⟩ := inI_to (v := n) (B := 40) (b := 40) rfl (by decide) (by unfold inI; rw [if_neg c_36, if_neg (Int32.not_lt.mpr c_42)]; decide)
          subst en
          have eq : (nI q).toNatClampNeg = q := nI_clamp (by omega)
          have hn0 : ¬ nI q < 0 := c_36
          have hn40 : ¬ 40 < nI q := Int32.not_lt.mpr c_42
          have ha : a_sheet (nI k) b0 (nI q) = if b0 = 0 then .inr (0, none) else .inr (nI q, some (if b0 = 8 then 0 else if b0 = 16 then 1 else 2, q, fun _ => 0)) := by rw [ha, if_neg hn0, if_neg hn40, eq]
          have tail : ∀ (sh : Option (Nat × Nat × Nat × (Nat → Int32))) (cf : cmap) (old : List Value), old.length = 1 → cf (63 + k) = some (L (63 + k), .inr (5, old)) → (∀ j, cfC D L (xsh x k sh) j = if j = 63 + k then some (L (63 + k), .inr (5, old.set 0 (va_rf (sh.map (·.1))))) else cf j) → (∃ a, sh = (sh.map (·.2)).map (fun z => (a, z.1, z.2.1, z.2.2))) → a_sheet (nI k) b0 (nI q) = .inr (if b0 = 0 then 0 else nI q, sh.map (·.2)) → ∀ (H : Heap) (locs : List Loc), hw D cf A H → va_S A s.heap H locs → W p l e ({ frames := 2, cells := 1, slots := 40, locals := 42 } : Room) s m ([.ref (L 44), .int (nI k), .int b0, .int (nI q)] : List Value).toArray below meth c H locs 1 40 (MQ below (vQ D A (fun ov cf' => ov = some (.int (aS (a_sheet (nI k) b0 (nI q)))) ∧ ∃ x', cf' = cfC D L x' ∧ shP x (nI k) (a_sheet (nI k) b0 (nI q)) x')) ([.ref (L 44), .int (nI k), .int b0, .int (nI q)] : List Value).toArray s 1 40 A) (F0 m 101 ls [va_rf (sh.map (·.1)), .ref (L (63 + k))]) := by
            intro sh cf old ho hc hset hsh ea H locs hI hS
            have hnar : narrow (.object "java/lang/Object") (va_rf (sh.map (·.1))) = va_rf (sh.map (·.1)) ∧ fits (.object "java/lang/Object") (va_rf (sh.map (·.1))) = true := by
              cases sh with
              | none => exact ⟨rfl, rfl⟩
              | some q => exact ⟨rfl, rfl⟩
            refine r_putN (C := RX5) (T := TX5) (N := 1) (cf' := cfC D L (xsh x k sh)) hx hb hts in_X5 tyX5 tyX5_ok nmX5 hown hK hI hS (i := 63 + k) hc rfl 0 (by decide) (nf_16 hK) (fun _ h => h) rfl (ty := .object "java/lang/Object") (by decide +kernel) hnar.1 hnar.2 (by omega) hset dX0_sheet_101 (fun H1 locs1 hI hS => ?_)
            have hP : ∃ x', cfC D L (xsh x k sh) = cfC D L x' ∧ shP x (nI k) (a_sheet (nI k) b0 (nI q)) x' := by
              obtain ⟨a, hsh⟩ := hsh
              refine ⟨_, rfl, ?_⟩
              rw [ea]
              refine ⟨a, ?_⟩
              show xsh x k sh = xsh x (nI k).toNatClampNeg ((sh.map (·.2)).map (fun z => (a, z.1, z.2.1, z.2.2)))
              rw [ek, ← hsh]
            refine lv_iload_n hx hb dX0_sheet_104 rfl (lv_at hl 2 rfl) ?_
            refine lv_if_ne (tgt := 112) hx hb dX0_sheet_105 (by decide) (fun c_105 => ?_) (fun c_105 => ?_)
            · refine lv_iload_n hx hb dX0_sheet_112 rfl (lv_at hl 3 rfl) ?_
              exact W.iret hx hb hr (fun t ht _ => ⟨⟨_, _, rfl, ⟨by rw [ea]; show _ = some (Value.int (if b0 = 0 then 0 else nI q)); rw [if_neg c_105], hP⟩, by rw [ht]; exact hI⟩, hS.F ht⟩) hS.2.2 dX0_sheet_113
            · refine lv_iconst (v := 0) hx hb dX0_sheet_108 (by decide) ?_
              refine lv_goto (tgt := 113) hx hb dX0_sheet_109 (by decide) ?_
              exact W.iret hx hb hr (fun t ht _ => ⟨⟨_, _, rfl, ⟨by rw [ea]; show _ = some (Value.int (if b0 = 0 then 0 else nI q)); rw [if_pos c_105], hP⟩, by rw [ht]; exact hI⟩, hS.F ht⟩) hS.2.2 dX0_sheet_113
          have hdel : ∀ j, j ≠ 179 + k → cdel (cfC D L x) (179 + k) j = cfC D L x j := fun j hj => if_neg hj
          have tN : ∀ (a t : Nat) (g : Nat → Int32) (j : Nat), cfC D L (xsh x k (some (a, t, q, g))) j = if j = 63 + k then some (L (63 + k), .inr (5, ([va_rf ((x.2.2.2 k).map (·.1))] : List Value).set 0 (.ref a))) else cadd (cdel (cfC D L x) (179 + k)) (179 + k) (a, .inl (D.1 (shc t), q, .inl g)) j := by
            intro a t g j
            rw [cs_shn hk4]
            by_cases h1 : j = 63 + k
            · rw [if_pos h1, if_pos h1]; rfl
            · rw [if_neg h1, if_neg h1]
              by_cases h2 : j = 179 + k
              · rw [if_pos h2, h2, cadd_at]; rfl
              · rw [if_neg h2, cadd_ne h2, hdel j h2]
          refine lv_aload_n hx hb dX0_sheet_60 rfl (lv_at hl 0 rfl) ?_
          refine r_get (C := RX0) (T := TX0) (N := 11) hx hb hts in_X0 hown hK hI cf_main rfl 9 (by decide) (hts _ q407) (fun _ h => h) rfl dX0_sheet_61 ?_
          refine lv_iload_n hx hb dX0_sheet_64 rfl (lv_at hl 1 rfl) ?_
          refine n_aaldS (f := fun k => L (63 + k)) (k := k) hx hb hK hI cf_sharr rfl hk4 (by decide) dX0_sheet_65 ?_
          have hI := hI.del (179 + k)
          refine lv_iload_n hx hb dX0_sheet_66 rfl (lv_at hl 2 rfl) ?_
          refine lv_if_ne (tgt := 74) hx hb dX0_sheet_67 (by decide) (fun c_67 => ?_) (fun c_67 => ?_)
          · have ea : ∀ a t, (if b0 = 8 then 0 else if b0 = 16 then 1 else 2) = t → a_sheet (nI k) b0 (nI q) = .inr (if b0 = 0 then 0 else nI q, (some (a, t, q, fun _ => (0 : Int32)) : Option (Nat × Nat × Nat × (Nat → Int32))).map (·.2)) := fun a t ht => by rw [ha, if_neg c_67, if_neg c_67, ht]; rfl
            refine lv_iload_n hx hb dX0_sheet_74 rfl (lv_at hl 2 rfl) ?_
            refine lv_bipush (v := 8) hx hb dX0_sheet_75 (by decide) ?_
            refine lv_icmp_ne (tgt := 86) hx hb dX0_sheet_77 (by decide) (fun c_77 => ?_) (fun c_77 => ?_)
            · refine lv_iload_n hx hb dX0_sheet_86 rfl (lv_at hl 2 rfl) ?_
              refine lv_bipush (v := 16) hx hb dX0_sheet_87 (by decide) ?_
              refine lv_icmp_ne (tgt := 98) hx hb dX0_sheet_89 (by decide) (fun c_89 => ?_) (fun c_89 => ?_)
              · refine lv_iload_n hx hb dX0_sheet_98 rfl (lv_at hl 3 rfl) ?_
                refine r_newa (atype := .int) (N := q) (i := 179 + k) hx hb (hts _ q257) rfl (hK.1.2 0 _ rfl).2 hI hS hA rfl (if_pos rfl) hn0 eq (by show q * 4 ≤ _; omega) (by show 0 + 1 ≤ 1; omega) (by show 0 + q ≤ 40; omega) dX0_sheet_99 (fun a H1 _ hI hS => ?_)
                refine W.widen (k := 1) (n := 40) (by omega) (by omega) ?_
                exact tail (some (a, 2, q, fun _ => 0)) _ _ rfl ((cadd_ne (by omega)).trans ((hdel _ (by omega)).trans (cf_shsl hk4))) (tN a 2 _) ⟨a, rfl⟩ (ea a 2 (by rw [if_neg c_77, if_neg c_89])) _ _ hI hS
              · refine lv_iload_n hx hb dX0_sheet_92 rfl (lv_at hl 3 rfl) ?_
                refine r_newa (atype := .short) (N := q) (i := 179 + k) hx hb (hts _ q1103) rfl (hK.1.2 2 _ rfl).2 hI hS hA rfl (if_pos rfl) hn0 eq (by show q * 2 ≤ _; omega) (by show 0 + 1 ≤ 1; omega) (by show 0 + q ≤ 40; omega) dX0_sheet_93 (fun a H1 _ hI hS => ?_)
                refine W.widen (k := 1) (n := 40) (by omega) (by omega) ?_
                refine lv_goto (tgt := 101) hx hb dX0_sheet_95 (by decide) ?_
                exact tail (some (a, 1, q, fun _ => 0)) _ _ rfl ((cadd_ne (by omega)).trans ((hdel _ (by omega)).trans (cf_shsl hk4))) (tN a 1 _) ⟨a, rfl⟩ (ea a 1 (by rw [if_neg c_77, if_pos c_89])) _ _ hI hS
            · refine lv_iload_n hx hb dX0_sheet_80 rfl (lv_at hl 3 rfl) ?_
              refine r_newa (atype := .byte) (N := q) (i := 179 + k) hx hb (hts _ q256) rfl (hK.1.2 1 _ rfl).2 hI hS hA rfl (if_pos rfl) hn0 eq (by show q * 1 ≤ _; omega) (by show 0 + 1 ≤ 1; omega) (by show 0 + q ≤ 40; omega) dX0_sheet_81 (fun a H1 _ hI hS => ?_)
              refine W.widen (k := 1) (n := 40) (by omega) (by omega) ?_
              refine lv_goto (tgt := 101) hx hb dX0_sheet_83 (by decide) ?_
              exact tail (some (a, 0, q, fun _ => 0)) _ _ rfl ((cadd_ne (by omega)).trans ((hdel _ (by omega)).trans (cf_shsl hk4))) (tN a 0 _) ⟨a, rfl⟩ (ea a 0 (by rw [if_pos c_77])) _ _ hI hS
          · refine lv_null hx hb dX0_sheet_70 ?_
            refine lv_goto (tgt := 101) hx hb dX0_sheet_71 (by decide) ?_
            refine W.widen (k := 1) (n := 40) (Nat.le_of_ble_eq_true rfl) (Nat.le_of_ble_eq_true rfl) ?_
            exact tail none _ _ rfl ((hdel _ (by omega)).trans (cf_shsl hk4)) (fun j => by
              rw [cs_shn hk4]
              by_cases h1 : j = 63 + k
              · rw [if_pos h1, if_pos h1]; rfl
              · rw [if_neg h1, if_neg h1]
                by_cases h2 : j = 179 + k
                · rw [if_pos h2, h2]; exact (if_pos rfl).symm
                · rw [if_neg h2, hdel j h2]) ⟨0, rfl⟩ (by rw [ha, if_pos c_67, if_pos c_67]; rfl) _ _ hI hS
        · refine lv_aload_n hx hb dX0_sheet_45 rfl (lv_at hl 0 rfl) ?_
          refine lv_iload_n hx hb dX0_sheet_46 rfl (lv_at hl 3 rfl) ?_
          refine lv_if_ge (tgt := 55) hx hb dX0_sheet_47 (by decide) (fun _ => ?_) (fun h => absurd (Int32.not_lt.mp c_36) h)
          refine lv_iconst (v := 0) hx hb dX0_sheet_55 (by decide) ?_
          refine c_m (k_V (As := [.int 0]) (rest := []) F (k_X0_finding x 0 (by decide)) (cwV 1 hts (lw_V q457 q459 qs2 q91 q460) rfl rfl rfl (by decide +kernel) ⟨Nat.le_of_ble_eq_true rfl, Nat.le_of_ble_eq_true rfl⟩) hI hK (hw.recv hI hK (cf_main) rfl) rfl hl.1 rfl (Nat.le_of_ble_eq_true rfl) dX0_sheet_56 ⟨Nat.le_of_ble_eq_true rfl, Nat.le_of_ble_eq_true rfl⟩) hS (fun H1 locs1 hI hS => ?_)
          exact ret_f 0 _ _ 59 (by rw [ha, if_neg c_36, if_pos (Int32.not_le.mp c_42)]) hI hS dX0_sheet_59
    have no35 : ¬ (b0 = 0 ∨ b0 = 8 ∨ b0 = 16 ∨ b0 = 32) → a_sheet (nI k) b0 n = .inl 0 := fun h => by unfold a_sheet; rw [if_neg c_4, if_neg h]
    refine lv_iload_n hx hb dX0_sheet_7 rfl (lv_at hl 2 rfl) ?_
    refine lv_if_eq (tgt := 35) hx hb dX0_sheet_8 (by decide) (fun c_8 => at35 (Or.inl c_8)) (fun c_8 => ?_)
    refine lv_iload_n hx hb dX0_sheet_11 rfl (lv_at hl 2 rfl) ?_
    refine lv_bipush (v := 8) hx hb dX0_sheet_12 (by decide) ?_
    refine lv_icmp_eq (tgt := 35) hx hb dX0_sheet_14 (by decide) (fun c_14 => at35 (Or.inr (Or.inl c_14))) (fun c_14 => ?_)
    refine lv_iload_n hx hb dX0_sheet_17 rfl (lv_at hl 2 rfl) ?_
    refine lv_bipush (v := 16) hx hb dX0_sheet_18 (by decide) ?_
    refine lv_icmp_eq (tgt := 35) hx hb dX0_sheet_20 (by decide) (fun c_20 => at35 (Or.inr (Or.inr (Or.inl c_20)))) (fun c_20 => ?_)
    refine lv_iload_n hx hb dX0_sheet_23 rfl (lv_at hl 2 rfl) ?_
    refine lv_bipush (v := 32) hx hb dX0_sheet_24 (by decide) ?_
    refine lv_icmp_eq (tgt := 35) hx hb dX0_sheet_26 (by decide) (fun c_26 => at35 (Or.inr (Or.inr (Or.inr c_26)))) (fun c_26 => ?_)
    exact at29 (no35 (fun h => by rcases h with h | h | h | h <;> contradiction))
