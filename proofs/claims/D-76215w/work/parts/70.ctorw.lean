/-! a world is made -/
def w0 : wd := fun r c => if r = 0 then nI (1000 * c + 10 * c + 5) else if r = 1 then (if c = 3 then 1 else 0) else if r = 9 then -1 else 0
def wA (i : Nat) : wd := fun r c => if r = 0 then (if c < i then nI (1000 * c + 10 * c + 5) else 0) else if r = 1 then (if c = 3 then 1 else 0) else 0
def wB (i : Nat) : wd := fun r c => if r = 0 then (if c < 6 then nI (1000 * c + 10 * c + 5) else 0) else if r = 1 then (if c = 3 then 1 else 0) else if r = 9 then (if c < i then -1 else 0) else 0
theorem wA_s (i : Nat) : u2 (wA i) 0 i (nI (1000 * i + 10 * i + 5)) = wA (i + 1) := by
  funext r c
  rw [u2_at]
  unfold wA
  by_cases h0 : r = 0
  · by_cases hc : c = i
    · rw [if_pos ⟨h0, hc⟩, if_pos h0, if_pos (by omega), hc]
    · rw [if_neg (fun h => hc h.2), if_pos h0, if_pos h0]
      by_cases hl : c < i
      · rw [if_pos hl, if_pos (by omega)]
      · rw [if_neg hl, if_neg (by omega)]
  · rw [if_neg (fun h => h0 h.1), if_neg h0, if_neg h0]
theorem wA_6 : wA 6 = wB 0 := by
  funext r c
  unfold wA wB
  by_cases h0 : r = 0
  · rw [if_pos h0, if_pos h0]
  · rw [if_neg h0, if_neg h0]
    by_cases h1 : r = 1
    · rw [if_pos h1, if_pos h1]
    · rw [if_neg h1, if_neg h1]
      by_cases h9 : r = 9
      · rw [if_pos h9, if_neg (Nat.not_lt_zero _)]
      · rw [if_neg h9]
theorem wB_s (i : Nat) : u2 (wB i) 9 i (-1) = wB (i + 1) := by
  funext r c
  rw [u2_at]
  unfold wB
  by_cases h0 : r = 0
  · rw [if_neg (by omega), if_pos h0, if_pos h0]
  · by_cases h1 : r = 1
    · rw [if_neg (by omega), if_neg h0, if_pos h1, if_neg h0, if_pos h1]
    · by_cases h9 : r = 9
      · by_cases hc : c = i
        · rw [if_pos ⟨h9, hc⟩, if_neg h0, if_neg h1, if_pos h9, if_pos (by omega)]
        · rw [if_neg (fun h => hc h.2), if_neg h0, if_neg h1, if_pos h9, if_neg h0, if_neg h1, if_pos h9]
          by_cases hl : c < i
          · rw [if_pos hl, if_pos (by omega)]
          · rw [if_neg hl, if_neg (by omega)]
      · rw [if_neg (by omega), if_neg h0, if_neg h1, if_neg h9, if_neg h0, if_neg h1, if_neg h9]
/-- a world's eleven cells, from the number b on, at the addresses f -/
def cwf (D : va_G) (f : Nat → Nat) (cf : cmap) (b : Nat) (w : wd) : cmap := fun j => if b ≤ j ∧ j < b + 11 then some (f (j - b), cw_w D (fun i => f (i - b)) w b (j - b)) else cf j
section CWF
variable {D : va_G} {f : Nat → Nat} {cf : cmap} {b : Nat} {w w' : wd} {A : Nat → Prop} {H : Heap}
theorem cwf_at {k : Nat} (hk : k < 11) : cwf D f cf b w (b + k) = some (f k, cw_w D (fun i => f (i - b)) w b k) := by
  unfold cwf
  rw [if_pos ⟨by omega, by omega⟩, Nat.add_sub_cancel_left]
theorem cwf_ne {j : Nat} (hj : j < b ∨ b + 11 ≤ j) : cwf D f cf b w j = cf j := if_neg (by omega)
theorem cwf_0 : cwf D f cf b w b = some (f 0, .inr (4, [.ref (f 1), .int (w 1 0), .ref (f 2), .int (w 1 1), .int (w 1 2), .int (w 1 3), .ref (f 10)])) := by
  have h := cwf_at (D := D) (f := f) (cf := cf) (b := b) (w := w) (k := 0) (by decide)
  simp only [Nat.add_zero, cw_w, Nat.add_sub_cancel_left] at h
  exact h
theorem cwf_0h {h0 : Nat} (h : f 0 = h0) : cwf D f cf b w b = some (h0, .inr (4, [.ref (f 1), .int (w 1 0), .ref (f 2), .int (w 1 1), .int (w 1 2), .int (w 1 3), .ref (f 10)])) := by rw [← h]; exact cwf_0
theorem cwf_1 : cwf D f cf b w (b + 1) = some (f 1, .inl (D.1 100, 6, .inl (w 0))) := cwf_at (by decide)
theorem cwf_10 : cwf D f cf b w (b + 10) = some (f 10, .inl (D.1 100, 10, .inl (w 9))) := cwf_at (by decide)
theorem cwf_cell {k : Nat} (hk : k < 11) (r0 : Nat) (hf : ∀ r, r ≠ r0 → w' r = w r) (hn : ∀ j, j < 11 → j ≠ k → r0 ≠ ww_r j) {e : va_E} (he : cw_w D (fun i => f (i - b)) w' b k = e) (q : Nat) : cwf D f cf b w' q = if q = b + k then some (f k, e) else cwf D f cf b w q := by
  by_cases hq : b ≤ q ∧ q < b + 11
  · obtain ⟨j, rfl⟩ : ∃ j, q = b + j := ⟨q - b, by omega⟩
    have hj : j < 11 := by omega
    rw [cwf_at hj, cwf_at hj]
    by_cases hjk : j = k
    · subst hjk; rw [if_pos rfl, he]
    · rw [if_neg (by omega), ww_ne w' w b r0 hf hj (hn j hj hjk)]
  · rw [cwf_ne (by omega), cwf_ne (by omega), if_neg (by omega)]
theorem cwf_list {c : Nat} {v : Int32} (q : Nat) : cwf D f cf b (u2 w 0 c v) q = if q = b + 1 then some (f 1, .inl (D.1 100, 6, .inl (upd (w 0) c v))) else cwf D f cf b w q :=
  cwf_cell (k := 1) (by decide) 0 (fun r h => u2_ne h) (fun j hj hn => by match j, hj, hn with | 0, _, _ => decide | 2, _, _ => decide | 3, _, _ => decide | 4, _, _ => decide | 5, _, _ => decide | 6, _, _ => decide | 7, _, _ => decide | 8, _, _ => decide | 9, _, _ => decide | 10, _, _ => decide) (by simp only [cw_w, u2_same]) q
theorem cwf_holds {c : Nat} {v : Int32} (q : Nat) : cwf D f cf b (u2 w 9 c v) q = if q = b + 10 then some (f 10, .inl (D.1 100, 10, .inl (upd (w 9) c v))) else cwf D f cf b w q :=
  cwf_cell (k := 10) (by decide) 9 (fun r h => u2_ne h) (fun j hj hn => by match j, hj, hn with | 0, _, _ => decide | 1, _, _ => decide | 2, _, _ => decide | 3, _, _ => decide | 4, _, _ => decide | 5, _, _ => decide | 6, _, _ => decide | 7, _, _ => decide | 8, _, _ => decide | 9, _, _ => decide | 10, _, hn => exact absurd rfl hn) (by simp only [cw_w, u2_same]) q
theorem cwf_w0 (h : hw D (cwf D f cf b (wB 10)) A H) : hw D (cwf D f cf b w0) A H := by
  refine h.ext fun j => ?_
  by_cases hq : b ≤ j ∧ j < b + 11
  · obtain ⟨k, rfl⟩ : ∃ k, j = b + k := ⟨j - b, by omega⟩
    have hk : k < 11 := by omega
    rw [cwf_at hk, cwf_at hk]
    match k, hk with
    | 0, _ => exact Or.inl rfl
    | 1, _ => exact Or.inr ⟨_, _, _, _, rfl, rfl, vc_i fun k hk => by show (if k < 6 then _ else _) = _; rw [if_pos hk]; rfl⟩
    | 2, _ => exact Or.inl rfl
    | 3, _ => exact Or.inl rfl
    | 4, _ => exact Or.inl rfl
    | 5, _ => exact Or.inl rfl
    | 6, _ => exact Or.inl rfl
    | 7, _ => exact Or.inl rfl
    | 8, _ => exact Or.inl rfl
    | 9, _ => exact Or.inl rfl
    | 10, _ => exact Or.inr ⟨_, _, _, _, rfl, rfl, vc_i fun k hk => by show (if k < 10 then _ else _) = _; rw [if_pos hk]; rfl⟩
  · exact Or.inl (by rw [cwf_ne (by omega), cwf_ne (by omega)])
end CWF
def fW (h0 a1 a2 a10 : Nat) : Nat → Nat := fun k => if k = 0 then h0 else if k = 1 then a1 else if k < 10 then a2 + (k - 2) else a10
set_option maxHeartbeats 1000000 in
theorem n_X4_init {l : Launch} {D : va_G} {A : Nat → Prop} {z : Value × Value} {cf : cmap} {b h0 : Nat} (hc : cf b = some (h0, .inr (4, [.null, .int 0, .null, .int 0, .int 0, .int 0, .null]))) (hf : ∀ k, 1 ≤ k → k < 11 → cf (b + k) = none) : Met l yX4_init (ws_ yX4_init cX4_init 2 none) ({ frames := 1, cells := 10, slots := 79, locals := 22 } : Room) (va_Pc [.ref h0] (pN D cf A z)) (vQ D A (fun ov cf' => ov = none ∧ ∃ f, f 0 = h0 ∧ cf' = cwf D f cf b w0)) 10 79 A := by
  refine met_N (by decide) rfl (Nat.le_of_ble_eq_true rfl) ?_
  intro p e s m below meth c ls hx hb hr hml hown hts hlocks hl hI hK hX hin
  have F : CallFix p m c cX4_init 2 s _ lw_all RX4 := ⟨hx, hb, hml, hown, hts⟩
  have hl : lv_has ls 2 [(0, .ref h0)] := hl
  have hS : va_S A s.heap s.heap [] := va_S.rf
  have hap := r_apart (ci := 4) hts in_X4 tyX4 tyX4_ok (fun a ha b hb h => Or.inr (nmX4 a ha b hb h)) hK rfl
  have hA := hX.2.2.2.2
  refine lv_aload_n hx hb dX4_init_0 rfl (lv_at hl 0 rfl) ?_
  refine W.objInit hx hb hown (hts _ q217) (hts _ q121) (hts _ q122) rfl (by rw [hml]; exact hl.1) rfl dX4_init_1 (Nat.le_of_ble_eq_true rfl) (Nat.le_of_ble_eq_true rfl) ?_
  refine W.eq (g2 := F0 m 4 ls []) rfl ?_
  refine lv_aload_n hx hb dX4_init_4 rfl (lv_at hl 0 rfl) ?_
  refine lv_bipush (v := 6) hx hb dX4_init_5 (by decide) ?_
  refine r_newa (atype := .int) (N := 6) (i := b + 1) hx hb (hts _ q257) rfl (hK.1.2 0 _ rfl).2 hI hS hA rfl (hf 1 (by decide) (by decide)) (by decide) (by decide) (by decide) (Nat.le_of_ble_eq_true rfl) (Nat.le_of_ble_eq_true rfl) dX4_init_7 (fun a1 H1 _ hI hS => ?_)
  refine W.widen (k := 1) (n := 6) (Nat.le_of_ble_eq_true rfl) (Nat.le_of_ble_eq_true rfl) ?_
  refine r_putF (C := RX4) (T := TX4) (N := 7) (ty := .array .int) hx hb hts in_X4 hap hown hK hI hS (i := b) ((cadd_ne (by omega)).trans hc) rfl 0 (by decide) (hts _ q223) (fun _ h => h) rfl hin rfl (by decide +kernel) rfl rfl (Nat.le_of_ble_eq_true rfl) dX4_init_9 (fun H1 locs1 hI hS => ?_)
  refine lv_aload_n hx hb dX4_init_12 rfl (lv_at hl 0 rfl) ?_
  refine lv_bipush (v := 7) hx hb dX4_init_13 (by decide) ?_
  refine lv_bipush (v := 8) hx hb dX4_init_15 (by decide) ?_
  refine r_multi (b := b + 2) hx hb hown (hts _ q218) hX (hts _ q257) hK hI hS hA (fun k hk => by rw [cadd_ne (by omega), cadd_ne (by omega), Nat.add_assoc]; exact hf (2 + k) (by omega) (by omega)) (Nat.le_of_ble_eq_true rfl) (Nat.le_of_ble_eq_true rfl) dX4_init_17 (fun a2 H1 locs1 hI hS => ?_)
  refine W.widen (k := 9) (n := 69) (Nat.le_of_ble_eq_true rfl) (Nat.le_of_ble_eq_true rfl) ?_
  refine r_putF (C := RX4) (T := TX4) (N := 7) (ty := .array (.array .int)) hx hb hts in_X4 hap hown hK hI hS (i := b) (show mset D _ (b + 2) a2 b = _ from (if_neg (by omega)).trans ((if_neg (by omega)).trans (cadd_at _ _ _))) rfl 2 (by decide) (hts _ q229) (fun _ h => h) rfl hin rfl (by decide +kernel) rfl rfl (Nat.le_of_ble_eq_true rfl) dX4_init_21 (fun H1 locs1 hI hS => ?_)
  refine lv_aload_n hx hb dX4_init_24 rfl (lv_at hl 0 rfl) ?_
  refine lv_iconst (v := 1) hx hb dX4_init_25 (by decide) ?_
  refine r_put (C := RX4) (T := TX4) (N := 7) (cf' := cadd _ b (h0, .inr (4, [.ref a1, .int 0, .ref a2, .int 0, .int 0, .int 1, .null]))) hx hb hts in_X4 tyX4 tyX4_ok nmX4 hown hK hI hS (i := b) (cadd_at _ _ _) rfl 5 (by decide) (hts _ q237) (fun _ h => h) rfl (ty := .int) (by decide +kernel) rfl rfl (Nat.le_of_ble_eq_true rfl) (fun _ => rfl) dX4_init_26 (fun H1 locs1 hI hS => ?_)
  refine lv_aload_n hx hb dX4_init_29 rfl (lv_at hl 0 rfl) ?_
  refine lv_bipush (v := 10) hx hb dX4_init_30 (by decide) ?_
  refine r_newa (atype := .int) (N := 10) (i := b + 10) hx hb (hts _ q257) rfl (hK.1.2 0 _ rfl).2 hI hS hA rfl (by rw [cadd_ne (by omega), cadd_ne (by omega)]; refine (if_neg (by omega)).trans ((if_neg (by omega)).trans ?_); rw [cadd_ne (by omega), cadd_ne (by omega)]; exact hf 10 (by decide) (by decide)) (by decide) (by decide) (by decide) (Nat.le_of_ble_eq_true rfl) (Nat.le_of_ble_eq_true rfl) dX4_init_32 (fun a10 H1 _ hI hS => ?_)
  refine W.widen (k := 10) (n := 79) (Nat.le_of_ble_eq_true rfl) (Nat.le_of_ble_eq_true rfl) ?_
  refine r_putF (C := RX4) (T := TX4) (N := 7) (ty := .array .int) hx hb hts in_X4 hap hown hK hI hS (i := b) ((cadd_ne (by omega)).trans (cadd_at _ _ _)) rfl 6 (by decide) (hts _ q239) (fun _ h => h) rfl hin rfl (by decide +kernel) rfl rfl (Nat.le_of_ble_eq_true rfl) dX4_init_34 (fun H1 locs1 hI hS => ?_)
  obtain ⟨f, ef⟩ : ∃ f, f = fW h0 a1 a2 a10 := ⟨_, rfl⟩
  have hf0 : f 0 = h0 := by rw [ef]; rfl
  have hf1 : f 1 = a1 := by rw [ef]; rfl
  have hf2 : f 2 = a2 := by rw [ef]; rfl
  have hfr : ∀ r, r < 7 → f (3 + r) = a2 + 1 + r := by
    intro r hr
    rw [ef]
    unfold fW
    rw [if_neg (by omega), if_neg (by omega), if_pos (by omega)]
    omega
  have hf10 : f 10 = a10 := by rw [ef]; rfl
  have hI : hw D (cwf D f cf b (wA 0)) A H1 := by
    refine hI.ext fun j => ?_
    by_cases hq : b ≤ j ∧ j < b + 11
    · obtain ⟨k, rfl⟩ : ∃ k, j = b + k := ⟨j - b, by omega⟩
      have hk : k < 11 := by omega
      have hin : ∀ r, r < 7 → cadd (cadd (cadd (cadd (mset D (cadd (cadd cf (b + 1) (a1, .inl (D.1 100, 6, .inl fun _ => 0))) b (h0, .inr (4, [.ref a1, .int 0, .null, .int 0, .int 0, .int 0, .null]))) (b + 2) a2) b (h0, .inr (4, [.ref a1, .int 0, .ref a2, .int 0, .int 0, .int 0, .null]))) b (h0, .inr (4, [.ref a1, .int 0, .ref a2, .int 0, .int 0, .int 1, .null]))) (b + 10) (a10, .inl (D.1 100, 10, .inl fun _ => 0))) b (h0, .inr (4, [.ref a1, .int 0, .ref a2, .int 0, .int 0, .int 1, .ref a10])) (b + (3 + r)) = some (f (3 + r), .inl (D.1 100, 8, .inl fun _ => 0)) := by
        intro r hr
        rw [cadd_ne (by omega), cadd_ne (by omega), cadd_ne (by omega), cadd_ne (by omega)]
        refine (if_neg (by omega)).trans ((if_pos (by omega)).trans ?_)
        rw [hfr r hr, show a2 + (b + (3 + r) - (b + 2)) = a2 + 1 + r by omega]
      rw [cwf_at hk]
      match k, hk with
      | 0, _ =>
        refine Or.inl ?_
        refine Eq.trans ?_ (cadd_at _ _ _).symm
        simp only [cw_w, Nat.add_sub_cancel_left, hf0, hf1, hf2, hf10]
        rfl
      | 1, _ =>
        refine Or.inl ?_
        rw [cadd_ne (by omega), cadd_ne (by omega), cadd_ne (by omega), cadd_ne (by omega)]
        refine Eq.trans ?_ ((if_neg (by omega)).trans ((if_neg (by omega)).trans ((cadd_ne (by omega)).trans (cadd_at _ _ _)))).symm
        rw [hf1]
        rfl
      | 2, _ =>
        refine Or.inr ⟨a2, D.1 103, (7, .inr (.inr (.inr (.inr (fun r => some (a2 + 1 + r)))))), (7, .inr (.inr (.inr (.inr (fun r => some (f (b + 3 + r - b))))))), ?_, by rw [hf2]; rfl, ?_⟩
        · rw [cadd_ne (by omega), cadd_ne (by omega), cadd_ne (by omega), cadd_ne (by omega)]
          exact if_pos rfl
        · refine vc_q fun r hr => ?_
          show some (a2 + 1 + r) = some (f (b + 3 + r - b))
          rw [show b + 3 + r - b = 3 + r by omega, hfr r hr]
      | 3, _ => exact Or.inl (hin 0 (by decide)).symm
      | 4, _ => exact Or.inl (hin 1 (by decide)).symm
      | 5, _ => exact Or.inl (hin 2 (by decide)).symm
      | 6, _ => exact Or.inl (hin 3 (by decide)).symm
      | 7, _ => exact Or.inl (hin 4 (by decide)).symm
      | 8, _ => exact Or.inl (hin 5 (by decide)).symm
      | 9, _ => exact Or.inl (hin 6 (by decide)).symm
      | 10, _ =>
        refine Or.inl ?_
        rw [cadd_ne (by omega), cadd_at, hf10]
        rfl
    · refine Or.inl ?_
      rw [cwf_ne (by omega), cadd_ne (by omega), cadd_ne (by omega), cadd_ne (by omega), cadd_ne (by omega)]
      exact ((if_neg (by omega)).trans ((if_neg (by omega)).trans ((cadd_ne (by omega)).trans (cadd_ne (by omega))))).symm
  refine lv_iconst (v := 0) hx hb dX4_init_37 (by decide) ?_
  refine lv_istore_n (lv' := [(1, .int 0), (0, .ref h0)]) hx hb dX4_init_38 rfl hl (by decide) rfl (fun ls hl => ?_)
  have lp65 : ∀ (fuel i : Nat), i ≤ 10 → 10 - i < fuel → ∀ (H : Heap) (locs : List Loc), hw D (cwf D f cf b (wB i)) A H → va_S A s.heap H locs → ∀ (ls : Array Slot), lv_has ls 2 [(0, .ref h0), (1, .int (nI i))] → W p l e ({ frames := 1, cells := 10, slots := 79, locals := 22 } : Room) s m ([.ref h0] : List Value).toArray below meth c H locs 10 79 (MQ below (vQ D A (fun ov cf' => ov = none ∧ ∃ f, f 0 = h0 ∧ cf' = cwf D f cf b w0)) ([.ref h0] : List Value).toArray s 10 79 A) (F0 m 65 ls []) := by
    intro fuel
    induction fuel with
    | zero => intro i _ hf; exact absurd hf (Nat.not_lt_zero _)
    | succ fuel ih =>
      intro i hi hfu H locs hI hS ls hl
      refine lv_iload_n hx hb dX4_init_65 rfl (lv_at hl 1 rfl) ?_
      refine lv_bipush (v := 10) hx hb dX4_init_66 (by decide) ?_
      refine lv_icmp_ge (tgt := 84) hx hb dX4_init_68 (by decide) (fun c_68 => ?_) (fun c_68 => ?_)
      · have c_68 : 10 ≤ i := (nle (a := 10) (b := i) rfl rfl (by omega) (by omega)).mp c_68
        have e10 : i = 10 := by omega
        subst e10
        exact W.vret hx hb hr (fun t ht _ => ⟨⟨_, _, rfl, ⟨rfl, f, hf0, rfl⟩, by rw [ht]; exact cwf_w0 hI⟩, hS.F ht⟩) hS.2.2 dX4_init_84
      · have c_68 : ¬ 10 ≤ i := fun z => c_68 ((nle (a := 10) (b := i) rfl rfl (by omega) (by omega)).mpr z)
        refine lv_aload_n hx hb dX4_init_71 rfl (lv_at hl 0 rfl) ?_
        refine r_get (C := RX4) (T := TX4) (N := 7) hx hb hts in_X4 hown hK hI (cwf_0h hf0) rfl 6 (by decide) (hts _ q239) (fun _ h => h) rfl dX4_init_72 ?_
        refine lv_iload_n hx hb dX4_init_75 rfl (lv_at hl 1 rfl) ?_
        refine lv_iconst (v := (-1)) hx hb dX4_init_76 (by decide) ?_
        refine n_iast (cf' := cwf D f cf b (wB (i + 1))) (k := i) hx hb hK hI hS cwf_10 rfl (by omega) (by decide) (by rw [← wB_s]; exact cwf_holds) dX4_init_77 (fun H1 locs1 hI hS => ?_)
        refine lv_iinc (v := nI (i + 1)) (lv' := [(1, .int (nI (i + 1))), (0, .ref h0)]) hx hb dX4_init_78 hl (k := 1) rfl (nI_1 _) (by decide) rfl (fun ls hl => ?_)
        refine lv_goto (tgt := 65) hx hb dX4_init_81 (by decide) ?_
        exact ih (i + 1) (by omega) (by omega) _ _ hI hS ls (lv_sub hl [1, 0] rfl)
  have lp39 : ∀ (fuel i : Nat), i ≤ 6 → 6 - i < fuel → ∀ (H : Heap) (locs : List Loc), hw D (cwf D f cf b (wA i)) A H → va_S A s.heap H locs → ∀ (ls : Array Slot), lv_has ls 2 [(0, .ref h0), (1, .int (nI i))] → W p l e ({ frames := 1, cells := 10, slots := 79, locals := 22 } : Room) s m ([.ref h0] : List Value).toArray below meth c H locs 10 79 (MQ below (vQ D A (fun ov cf' => ov = none ∧ ∃ f, f 0 = h0 ∧ cf' = cwf D f cf b w0)) ([.ref h0] : List Value).toArray s 10 79 A) (F0 m 39 ls []) := by
    intro fuel
    induction fuel with
    | zero => intro i _ hf; exact absurd hf (Nat.not_lt_zero _)
    | succ fuel ih =>
      intro i hi hfu H locs hI hS ls hl
      refine lv_iload_n hx hb dX4_init_39 rfl (lv_at hl 1 rfl) ?_
      refine lv_bipush (v := 6) hx hb dX4_init_40 (by decide) ?_
      refine lv_icmp_ge (tgt := 63) hx hb dX4_init_42 (by decide) (fun c_42 => ?_) (fun c_42 => ?_)
      · have c_42 : 6 ≤ i := (nle (a := 6) (b := i) rfl rfl (by omega) (by omega)).mp c_42
        have e6 : i = 6 := by omega
        subst e6
        rw [wA_6] at hI
        refine lv_iconst (v := 0) hx hb dX4_init_63 (by decide) ?_
        refine lv_istore_n (lv' := [(1, .int 0), (0, .ref h0)]) hx hb dX4_init_64 rfl hl (by decide) rfl (fun ls hl => ?_)
        exact lp65 11 0 (by decide) (by decide) _ _ hI hS ls (lv_sub hl [1, 0] rfl)
      · have c_42 : ¬ 6 ≤ i := fun z => c_42 ((nle (a := 6) (b := i) rfl rfl (by omega) (by omega)).mpr z)
        refine lv_aload_n hx hb dX4_init_45 rfl (lv_at hl 0 rfl) ?_
        refine r_get (C := RX4) (T := TX4) (N := 7) hx hb hts in_X4 hown hK hI (cwf_0h hf0) rfl 0 (by decide) (hts _ q223) (fun _ h => h) rfl dX4_init_46 ?_
        refine lv_iload_n hx hb dX4_init_49 rfl (lv_at hl 1 rfl) ?_
        refine lv_iload_n hx hb dX4_init_50 rfl (lv_at hl 1 rfl) ?_
        refine lv_iload_n hx hb dX4_init_51 rfl (lv_at hl 1 rfl) ?_
        refine lv_iconst (v := 5) hx hb dX4_init_52 (by decide) ?_
        refine c_r (k_SN (As := [.int (nI i), .int (nI i), .int 5]) (rest := [.int (nI i), .ref (f 1)]) F (k_X0_saying (nI i) (nI i) 5) ⟨va_cnB 3 hts (lw_meth q222) rfl rfl rfl (nm_1 hK) (hts _ q91) (by decide +kernel) ⟨Nat.le_of_ble_eq_true rfl, Nat.le_of_ble_eq_true rfl⟩, hts _ q221, trivial⟩ rfl hl.1 rfl (Nat.le_of_ble_eq_true rfl) dX4_init_53 ⟨Nat.le_of_ble_eq_true rfl, Nat.le_of_ble_eq_true rfl⟩) ?_
        have esy : syI (nI i) (nI i) 5 = nI (1000 * i + 10 * i + 5) := na_add (na_add (na_mul (a := 1000) rfl rfl) (na_mul (a := 10) rfl rfl)) (b := 5) rfl
        rw [esy]
        refine n_iast (cf' := cwf D f cf b (wA (i + 1))) (k := i) hx hb hK hI hS cwf_1 rfl (by omega) (by decide) (by rw [← wA_s]; exact cwf_list) dX4_init_56 (fun H1 locs1 hI hS => ?_)
        refine lv_iinc (v := nI (i + 1)) (lv' := [(1, .int (nI (i + 1))), (0, .ref h0)]) hx hb dX4_init_57 hl (k := 1) rfl (nI_1 _) (by decide) rfl (fun ls hl => ?_)
        refine lv_goto (tgt := 39) hx hb dX4_init_60 (by decide) ?_
        exact ih (i + 1) (by omega) (by omega) _ _ hI hS ls (lv_sub hl [1, 0] rfl)
  exact lp39 7 0 (by decide) (by decide) _ _ hI hS ls (lv_sub hl [1, 0] rfl)
