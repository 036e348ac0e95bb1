/-! the reader and the whole component are made -/
theorem s_eq {A : Type} {a b : A} (h : a = b) : some a = some b := congrArg some h
theorem n_X2_init {l : Launch} {D : va_G} {A : Nat → Prop} {z : Value × Value} {cf : cmap} {h0 : Nat} (hc : cf 46 = some (h0, .inr (2, [.null, .null, .null, .int 0, .int 0, .int 0, .int 0, .int 0]))) (h47 : cf 47 = none) (h48 : cf 48 = none) (hf : ∀ k, k < 11 → cf (33 + k) = none) : Met l yX2_init (ws_ yX2_init cX2_init 1 none) ({ frames := 5, cells := 13, slots := 212, locals := 104 } : Room) (va_Pc [.ref h0] (pN D cf A z)) (vQ D A (fun ov cf' => ov = none ∧ ∃ a47 a48 f, cf' = cadd (cwf D f (cadd (cadd cf 47 (a47, .inr (3, [.null, .null, .null, .null, .null, .int 0]))) 48 (a48, .inl (D.1 101, 120, .inl (fun _ => 0)))) 33 w0) 46 (h0, .inr (2, [.ref a47, .ref a48, .ref (f 0), .int 0, .int 0, .int 0, .int 0, .int 0])))) 13 212 A := by
  refine met_N (by decide) rfl (Nat.le_of_ble_eq_true rfl) ?_
  intro p e s m below meth c ls hx hb hr hml hown hts hlocks hl hI hK hX hin
  have F : CallFix p m c cX2_init 1 s _ lw_all RX2 := ⟨hx, hb, hml, hown, hts⟩
  have hl : lv_has ls 1 [(0, .ref h0)] := hl
  have hS : va_S A s.heap s.heap [] := va_S.rf
  have hap := r_apart (ci := 2) hts in_X2 tyX2 tyX2_ok (fun a ha b hb h => Or.inr (nmX2 a ha b hb h)) hK rfl
  have hA := hX.2.2.2.2
  refine lv_aload_n hx hb dX2_init_0 rfl (lv_at hl 0 rfl) ?_
  refine W.objInit hx hb hown (hts _ q196) (hts _ q121) (hts _ q122) rfl (by rw [hml]; exact hl.1) rfl dX2_init_1 (Nat.le_of_ble_eq_true rfl) (Nat.le_of_ble_eq_true rfl) ?_
  refine W.eq (g2 := F0 m 4 ls []) rfl ?_
  refine lv_aload_n hx hb dX2_init_4 rfl (lv_at hl 0 rfl) ?_
  refine r_new (ci := 3) (fs := [.null, .null, .null, .null, .null, .int 0]) (C := RX3) (T := TX3) (N := 6) (i := 47) hx hb hts in_X3 tyX3 tyX3_ok hown (hts _ q197) (hts _ q198) (hts _ q97) hK hI hS hA rfl (fun j hj => by rcases (show j = 0 ∨ j = 1 ∨ j = 2 ∨ j = 3 ∨ j = 4 ∨ j = 5 by omega) with rfl | rfl | rfl | rfl | rfl | rfl <;> rfl) (h47) (Nat.le_of_ble_eq_true rfl) (Nat.le_of_ble_eq_true rfl) dX2_init_5 (fun a47 H1 hI hS => ?_)
  refine W.widen (k := 1) (n := 6) (Nat.le_of_ble_eq_true rfl) (Nat.le_of_ble_eq_true rfl) ?_
  refine lv_dup hx hb dX2_init_8 rfl ?_
  refine c_m (k_I (As := []) (rest := [.ref a47, .ref h0]) F (n_X3_init (i0 := 47) (cadd_at _ _ _)) (cwI 0 hts (lw_meth q208) rfl rfl rfl (hts _ q97) (hts _ q206) (hts _ q207) rfl (by decide +kernel) ⟨Nat.le_of_ble_eq_true rfl, Nat.le_of_ble_eq_true rfl⟩) hI hK hX hS rfl hl.1 rfl (Nat.le_of_ble_eq_true rfl) dX2_init_9 ⟨Nat.le_of_ble_eq_true rfl, Nat.le_of_ble_eq_true rfl⟩) hS (fun H1 locs1 hI hS => ?_)
  refine r_putF (C := RX2) (T := TX2) (N := 8) (ty := (.object "LeftGloves$Wrong")) hx hb hts in_X2 hap hown hK hI hS (i := 46) ((cadd_ne (by decide)).trans hc) rfl 0 (by decide) (hts _ q258) (fun _ h => h) rfl hin rfl (by decide +kernel) rfl rfl (Nat.le_of_ble_eq_true rfl) dX2_init_12 (fun H1 locs1 hI hS => ?_)
  refine lv_aload_n hx hb dX2_init_15 rfl (lv_at hl 0 rfl) ?_
  refine lv_bipush (v := 120) hx hb dX2_init_16 (by decide) ?_
  refine r_newa (atype := .byte) (N := 120) (i := 48) hx hb (hts _ q256) rfl (hK.1.2 1 _ rfl).2 hI hS hA rfl ((cadd_ne (by decide)).trans ((cadd_ne (by decide)).trans h48)) (by decide) (by decide) (by decide) (Nat.le_of_ble_eq_true rfl) (Nat.le_of_ble_eq_true rfl) dX2_init_18 (fun a48 H1 _ hI hS => ?_)
  refine W.widen (k := 2) (n := 126) (Nat.le_of_ble_eq_true rfl) (Nat.le_of_ble_eq_true rfl) ?_
  refine r_putF (C := RX2) (T := TX2) (N := 8) (ty := (.array .byte)) hx hb hts in_X2 hap hown hK hI hS (i := 46) ((cadd_ne (by decide)).trans (cadd_at _ _ _)) rfl 1 (by decide) (hts _ q259) (fun _ h => h) rfl hin rfl (by decide +kernel) rfl rfl (Nat.le_of_ble_eq_true rfl) dX2_init_20 (fun H1 locs1 hI hS => ?_)
  refine lv_aload_n hx hb dX2_init_23 rfl (lv_at hl 0 rfl) ?_
  refine r_new (ci := 4) (fs := [.null, .int 0, .null, .int 0, .int 0, .int 0, .null]) (C := RX4) (T := TX4) (N := 7) (i := 33) hx hb hts in_X4 tyX4 tyX4_ok hown (hts _ q212) (hts _ q213) (hts _ q98) hK hI hS hA rfl (fun j hj => by rcases (show j = 0 ∨ j = 1 ∨ j = 2 ∨ j = 3 ∨ j = 4 ∨ j = 5 ∨ j = 6 by omega) with rfl | rfl | rfl | rfl | rfl | rfl | rfl <;> rfl) (by rw [cadd_ne (by decide), cadd_ne (by decide), cadd_ne (by decide), cadd_ne (by decide)]; exact hf 0 (by decide)) (Nat.le_of_ble_eq_true rfl) (Nat.le_of_ble_eq_true rfl) dX2_init_24 (fun a33 H1 hI hS => ?_)
  refine W.widen (k := 3) (n := 133) (Nat.le_of_ble_eq_true rfl) (Nat.le_of_ble_eq_true rfl) ?_
  refine lv_dup hx hb dX2_init_27 rfl ?_
  refine c_n (k_I (As := []) (rest := [.ref a33, .ref h0]) F (n_X4_init (b := 33) (cadd_at _ _ _) (fun k h1 h2 => by rw [cadd_ne (by omega), cadd_ne (by omega), cadd_ne (by omega), cadd_ne (by omega), cadd_ne (by omega)]; exact hf k h2)) (cwI 0 hts (lw_meth q216) rfl rfl rfl (hts _ q98) (hts _ q214) (hts _ q215) rfl (by decide +kernel) ⟨Nat.le_of_ble_eq_true rfl, Nat.le_of_ble_eq_true rfl⟩) hI hK hX hS rfl hl.1 rfl (Nat.le_of_ble_eq_true rfl) dX2_init_28 ⟨Nat.le_of_ble_eq_true rfl, Nat.le_of_ble_eq_true rfl⟩) hS (fun ov cf9 H1 locs1 hP hI hS => ?_)
  obtain ⟨rfl, f, hf0, rfl⟩ := hP
  refine W.widen (k := 13) (n := 212) (Nat.le_of_ble_eq_true rfl) (Nat.le_of_ble_eq_true rfl) ?_
  show W p l e _ s m _ below meth c H1 locs1 13 212 _ (F0 m 31 ls [.ref a33, .ref h0])
  refine r_putF (C := RX2) (T := TX2) (N := 8) (ty := (.object "LeftGloves$World")) hx hb hts in_X2 hap hown hK hI hS (i := 46) ((cwf_ne (by decide)).trans ((cadd_ne (by decide)).trans (cadd_at _ _ _))) rfl 2 (by decide) (hts _ q261) (fun _ h => h) rfl hin rfl (by decide +kernel) rfl rfl (Nat.le_of_ble_eq_true rfl) dX2_init_31 (fun H1 locs1 hI hS => ?_)
  refine W.vret hx hb hr (fun t ht _ => ⟨⟨_, _, rfl, ⟨rfl, a47, a48, f, ?_⟩, by rw [ht]; exact hI⟩, hS.F ht⟩) hS.2.2 dX2_init_34
  funext j
  by_cases h46 : j = 46
  · subst h46; rw [cadd_at, cadd_at, hf0]; rfl
  · rw [cadd_ne h46, cadd_ne h46]
    by_cases hj : 33 ≤ j ∧ j < 33 + 11
    · obtain ⟨k, rfl⟩ : ∃ k, j = 33 + k := ⟨j - 33, by omega⟩
      rw [cwf_at (by omega), cwf_at (by omega)]
    · rw [cwf_ne (by omega), cwf_ne (by omega)]
      by_cases h48' : j = 48
      · subst h48'; rw [cadd_ne (by decide), cadd_ne (by decide), cadd_at, cadd_at]
      · rw [cadd_ne (by omega), cadd_ne h46, cadd_ne h48', cadd_ne h46, cadd_ne h48']
def xst0 : cst := (fun _ => w0, fun _ _ => 0, fun _ => none, fun _ => none)
/-- slots that hold gloves, the first k -/
def mG (D : va_G) (c : cmap) (h0 a50 : Nat) (aS aG : Nat → Nat) (k : Nat) : cmap := fun i => if 67 ≤ i ∧ i < 67 + k then some (aS (i - 67), .inr (5, [.ref (aG (i - 67))])) else if 123 ≤ i ∧ i < 123 + k then some (aG (i - 123), .inr (6 + (i - 123) / 8, [.int (nI ((i - 123) % 8)), .ref h0, .ref h0, .ref h0, .ref h0])) else if i = 50 then some (a50, .inl (D.1 104, 56, .inr (.inr (.inr (.inr (fun j => if j < k then some (aS j) else none)))))) else c i
/-- slots that hold nothing, the first k -/
def mS (D : va_G) (c : cmap) (b i0 n a : Nat) (aP : Nat → Nat) (k : Nat) : cmap := fun i => if b ≤ i ∧ i < b + k then some (aP (i - b), .inr (5, [.null])) else if i = i0 then some (a, .inl (D.1 104, n, .inr (.inr (.inr (.inr (fun j => if j < k then some (aP j) else none)))))) else c i
def upN (f : Nat → Nat) (k v : Nat) : Nat → Nat := fun j => if j = k then v else f j
theorem upN_ne {f : Nat → Nat} {k v j : Nat} (h : j ≠ k) : upN f k v j = f j := if_neg h
theorem upN_at (f : Nat → Nat) (k v : Nat) : upN f k v k = v := if_pos rfl
theorem up_arr (aS : Nat → Nat) (k q : Nat) : va_up (fun j => if j < k then some (aS j) else none) k (some q) = fun j => if j < k + 1 then some (upN aS k q j) else none := by
  funext j
  unfold va_up
  by_cases h : j = k
  · rw [if_pos h, if_pos (by omega), h, upN_at]
  · rw [if_neg h, upN_ne h]
    show (if j < k then some (aS j) else none) = _
    by_cases h2 : j < k
    · rw [if_pos h2, if_pos (by omega)]
    · rw [if_neg h2, if_neg (by omega)]
theorem mG_s {D : va_G} {c : cmap} {h0 a50 k q a : Nat} {aS aG : Nat → Nat} (hk : k < 56) : cadd (cadd (cadd (cadd (mG D c h0 a50 aS aG k) (67 + k) (q, .inr (5, [.null]))) 50 (a50, .inl (D.1 104, 56, .inr (.inr (.inr (.inr (va_up (fun j => if j < k then some (aS j) else none) k (some q)))))))) (123 + k) (a, .inr (6 + k / 8, [.int (nI (k % 8)), .ref h0, .ref h0, .ref h0, .ref h0]))) (67 + k) (q, .inr (5, [.ref a])) = mG D c h0 a50 (upN aS k q) (upN aG k a) (k + 1) := by
  funext i
  by_cases h1 : i = 67 + k
  · subst h1
    rw [cadd_at]
    unfold mG
    rw [if_pos ⟨by omega, by omega⟩, Nat.add_sub_cancel_left, upN_at, upN_at]
  · rw [cadd_ne h1]
    by_cases h2 : i = 123 + k
    · subst h2
      rw [cadd_at]
      unfold mG
      rw [if_neg (by omega), if_pos ⟨by omega, by omega⟩, Nat.add_sub_cancel_left, upN_at]
    · rw [cadd_ne h2]
      by_cases h3 : i = 50
      · subst h3
        rw [cadd_at, up_arr]
        unfold mG
        rw [if_neg (by omega), if_neg (by omega), if_pos rfl]
      · rw [cadd_ne h3, cadd_ne h1]
        unfold mG
        by_cases h4 : 67 ≤ i ∧ i < 67 + k
        · rw [if_pos h4, if_pos ⟨by omega, by omega⟩, upN_ne (by omega), upN_ne (by omega)]
        · rw [if_neg h4, if_neg (show ¬ (67 ≤ i ∧ i < 67 + (k + 1)) by omega)]
          by_cases h5 : 123 ≤ i ∧ i < 123 + k
          · rw [if_pos h5, if_pos (show 123 ≤ i ∧ i < 123 + (k + 1) by omega), upN_ne (by omega)]
          · rw [if_neg h5, if_neg (show ¬ (123 ≤ i ∧ i < 123 + (k + 1)) by omega), if_neg h3, if_neg h3]
theorem mS_s {D : va_G} {c : cmap} {b i0 n a k q : Nat} {aP : Nat → Nat} (hi : i0 < b) : cadd (cadd (mS D c b i0 n a aP k) (b + k) (q, .inr (5, [.null]))) i0 (a, .inl (D.1 104, n, .inr (.inr (.inr (.inr (va_up (fun j => if j < k then some (aP j) else none) k (some q))))))) = mS D c b i0 n a (upN aP k q) (k + 1) := by
  funext i
  by_cases h3 : i = i0
  · subst h3
    rw [cadd_at, up_arr]
    unfold mS
    rw [if_neg (by omega), if_pos rfl]
  · rw [cadd_ne h3]
    by_cases h1 : i = b + k
    · subst h1
      rw [cadd_at]
      unfold mS
      rw [if_pos ⟨by omega, by omega⟩, Nat.add_sub_cancel_left, upN_at]
    · rw [cadd_ne h1]
      unfold mS
      by_cases h4 : b ≤ i ∧ i < b + k
      · rw [if_pos h4, if_pos ⟨by omega, by omega⟩, upN_ne (by omega)]
      · rw [if_neg h4, if_neg (show ¬ (b ≤ i ∧ i < b + (k + 1)) by omega), if_neg h3, if_neg h3]
theorem mG_0 {D : va_G} {c : cmap} {h0 a50 : Nat} {aS aG : Nat → Nat} (h : c 50 = some (a50, .inl (D.1 104, 56, .inr (.inr (.inr (.inr (fun _ => none))))))) : mG D c h0 a50 aS aG 0 = c := by
  funext i
  unfold mG
  rw [if_neg (by omega), if_neg (by omega)]
  by_cases h3 : i = 50
  · subst h3; rw [if_pos rfl, h]; rfl
  · rw [if_neg h3]
theorem mS_0 {D : va_G} {c : cmap} {b i0 n a : Nat} {aP : Nat → Nat} (h : c i0 = some (a, .inl (D.1 104, n, .inr (.inr (.inr (.inr (fun _ => none))))))) : mS D c b i0 n a aP 0 = c := by
  funext i
  unfold mS
  rw [if_neg (by omega)]
  by_cases h3 : i = i0
  · subst h3; rw [if_pos rfl, h]; rfl
  · rw [if_neg h3]
theorem kk_8 {k : Nat} (h : k < 56) : nI k / 8 = nI (k / 8) ∧ nI k - nI k / 8 * 8 = nI (k % 8) := by
  have : ∀ k, k < 56 → nI k / 8 = nI (k / 8) ∧ nI k - nI k / 8 * 8 = nI (k % 8) := by decide +kernel
  exact this k h
/-- what stands when all but the slots is made -/
def M1 (D : va_G) (c : cmap) (h0 : Nat) (f0 f1 f2 f3 : Nat → Nat) (a45 a46 a47 a48 a49 a50 a51 a52 : Nat) : Prop :=
  (∀ k, k < 11 → c (0 + k) = some (f0 k, cw_w D (fun i => f0 (i - 0)) w0 0 k)) ∧ (∀ k, k < 11 → c (11 + k) = some (f1 k, cw_w D (fun i => f1 (i - 11)) w0 11 k)) ∧ (∀ k, k < 11 → c (22 + k) = some (f2 k, cw_w D (fun i => f2 (i - 22)) w0 22 k)) ∧ (∀ k, k < 11 → c (33 + k) = some (f3 k, cw_w D (fun i => f3 (i - 33)) w0 33 k)) ∧
  c 44 = some (h0, .inr (0, [.ref a45, .ref a46, .int 0, .ref (f0 0), .ref (f1 0), .ref (f2 0), .int 0, .ref a50, .ref a51, .ref a52, .ref a49])) ∧
  c 45 = some (a45, .inr (1, [.null, .null, .null, .null, .null, .int 0, .int 0])) ∧
  c 46 = some (a46, .inr (2, [.ref a47, .ref a48, .ref (f3 0), .int 0, .int 0, .int 0, .int 0, .int 0])) ∧
  c 47 = some (a47, .inr (3, [.null, .null, .null, .null, .null, .int 0])) ∧
  c 48 = some (a48, .inl (D.1 101, 120, .inl (fun _ => 0))) ∧ c 49 = some (a49, .inl (D.1 100, 7, .inl (fun _ => 0))) ∧
  c 50 = some (a50, .inl (D.1 104, 56, .inr (.inr (.inr (.inr (fun _ => none)))))) ∧ c 51 = some (a51, .inl (D.1 104, 10, .inr (.inr (.inr (.inr (fun _ => none)))))) ∧ c 52 = some (a52, .inl (D.1 104, 4, .inr (.inr (.inr (.inr (fun _ => none)))))) ∧ ∀ j, 53 ≤ j → c j = none
def LL (h0 : Nat) (f0 f1 f2 f3 : Nat → Nat) (a45 a46 a47 a48 a49 a50 a51 a52 : Nat) (aS aG aP aQ : Nat → Nat) : Nat → Nat := fun i =>
  if i < 11 then f0 i else if i < 22 then f1 (i - 11) else if i < 33 then f2 (i - 22) else if i < 44 then f3 (i - 33) else if i = 44 then h0 else if i = 45 then a45 else if i = 46 then a46 else if i = 47 then a47 else if i = 48 then a48 else if i = 49 then a49 else if i = 50 then a50 else if i = 51 then a51 else if i = 52 then a52 else if i < 63 then aP (i - 53) else if i < 67 then aQ (i - 63) else if i < 123 then aS (i - 67) else aG (i - 123)
theorem cw_ext {D : va_G} {L f : Nat → Nat} {w : wd} {b k : Nat} (hk : k < 11) (h : ∀ j, j < 11 → L (b + j) = f j) : cw_w D L w b k = cw_w D (fun i => f (i - b)) w b k ∨ ∃ cA x y, cw_w D (fun i => f (i - b)) w b k = .inl (cA, x) ∧ cw_w D L w b k = .inl (cA, y) ∧ vp_cell cA x = vp_cell cA y := by
  have e1 : ∀ j, b + j - b = j := fun j => by omega
  match k, hk with
  | 0, _ => refine Or.inl ?_; simp only [cw_w, e1, h 1 (by decide), h 2 (by decide), h 10 (by decide)]
  | 1, _ => exact Or.inl rfl
  | 2, _ =>
    refine Or.inr ⟨D.1 103, _, _, rfl, rfl, vc_q fun r hr => ?_⟩
    show some (f (b + 3 + r - b)) = some (L (b + 3 + r))
    rw [Nat.add_assoc, e1, h (3 + r) (by omega)]
  | 3, _ => exact Or.inl rfl
  | 4, _ => exact Or.inl rfl
  | 5, _ => exact Or.inl rfl
  | 6, _ => exact Or.inl rfl
  | 7, _ => exact Or.inl rfl
  | 8, _ => exact Or.inl rfl
  | 9, _ => exact Or.inl rfl
  | 10, _ => exact Or.inl rfl

theorem M1_end {D : va_G} {A : Nat → Prop} {H : Heap} {c : cmap} {h0 : Nat} {f0 f1 f2 f3 : Nat → Nat} {a45 a46 a47 a48 a49 a50 a51 a52 : Nat} {aS aG aP aQ : Nat → Nat} (hM : M1 D c h0 f0 f1 f2 f3 a45 a46 a47 a48 a49 a50 a51 a52) (h : hw D (mS D (mS D (mG D c h0 a50 aS aG 56) 53 51 10 a51 aP 10) 63 52 4 a52 aQ 4) A H) : hw D (cfC D (LL h0 f0 f1 f2 f3 a45 a46 a47 a48 a49 a50 a51 a52 aS aG aP aQ) xst0) A H := by
  obtain ⟨g0, g1, g2, g3, g44, g45, g46, g47, g48, g49, g50, g51, g52, gN⟩ := hM
  refine h.ext fun i => ?_
  have low : ∀ i, i < 50 → mS D (mS D (mG D c h0 a50 aS aG 56) 53 51 10 a51 aP 10) 63 52 4 a52 aQ 4 i = c i := by
    intro i hi
    unfold mS mG
    rw [if_neg (by omega), if_neg (by omega), if_neg (by omega), if_neg (by omega), if_neg (by omega), if_neg (by omega), if_neg (by omega)]
  have wl : ∀ (b : Nat) (f : Nat → Nat), b + 11 ≤ 44 → 11 * (b / 11) = b → (∀ k, k < 11 → c (b + k) = some (f k, cw_w D (fun i => f (i - b)) w0 b k)) → (∀ j, j < 11 → LL h0 f0 f1 f2 f3 a45 a46 a47 a48 a49 a50 a51 a52 aS aG aP aQ (b + j) = f j) → ∀ k, k < 11 → cfC D (LL h0 f0 f1 f2 f3 a45 a46 a47 a48 a49 a50 a51 a52 aS aG aP aQ) xst0 (b + k) = mS D (mS D (mG D c h0 a50 aS aG 56) 53 51 10 a51 aP 10) 63 52 4 a52 aQ 4 (b + k) ∨ ∃ a cA x y, mS D (mS D (mG D c h0 a50 aS aG 56) 53 51 10 a51 aP 10) 63 52 4 a52 aQ 4 (b + k) = some (a, .inl (cA, x)) ∧ cfC D (LL h0 f0 f1 f2 f3 a45 a46 a47 a48 a49 a50 a51 a52 aS aG aP aQ) xst0 (b + k) = some (a, .inl (cA, y)) ∧ vp_cell cA x = vp_cell cA y := by
    intro b f hb hb2 hg hL k hk
    rw [low _ (by omega), hg k hk]
    have e : cfC D (LL h0 f0 f1 f2 f3 a45 a46 a47 a48 a49 a50 a51 a52 aS aG aP aQ) xst0 (b + k) = some (f k, cw_w D (LL h0 f0 f1 f2 f3 a45 a46 a47 a48 a49 a50 a51 a52 aS aG aP aQ) w0 b k) := by
      unfold cfC
      rw [if_pos (by omega), hL k hk, show (b + k) / 11 = b / 11 by omega, hb2, show (b + k) % 11 = k by omega]
      rfl
    rw [e]
    rcases cw_ext (D := D) (w := w0) hk hL with q | ⟨cA, x, y, q1, q2, q3⟩
    · exact Or.inl (by rw [q])
    · exact Or.inr ⟨f k, cA, x, y, by rw [q1], by rw [q2], q3⟩
  by_cases h1 : i < 11
  · have := wl 0 f0 (by decide) (by decide) g0 (fun j hj => by unfold LL; rw [if_pos (by omega), Nat.zero_add]) i h1
    rwa [Nat.zero_add] at this
  by_cases h2 : i < 22
  · have := wl 11 f1 (by decide) (by decide) g1 (fun j hj => by unfold LL; rw [if_neg (by omega), if_pos (by omega), Nat.add_sub_cancel_left]) (i - 11) (by omega)
    rwa [show 11 + (i - 11) = i by omega] at this
  by_cases h3 : i < 33
  · have := wl 22 f2 (by decide) (by decide) g2 (fun j hj => by unfold LL; rw [if_neg (by omega), if_neg (by omega), if_pos (by omega), Nat.add_sub_cancel_left]) (i - 22) (by omega)
    rwa [show 22 + (i - 22) = i by omega] at this
  by_cases h4 : i < 44
  · have := wl 33 f3 (by decide) (by decide) g3 (fun j hj => by unfold LL; rw [if_neg (by omega), if_neg (by omega), if_neg (by omega), if_pos (by omega), Nat.add_sub_cancel_left]) (i - 33) (by omega)
    rwa [show 33 + (i - 33) = i by omega] at this
  by_cases h5 : i < 50
  · rw [low _ h5]
    refine Or.inl ?_
    rcases (show i = 44 ∨ i = 45 ∨ i = 46 ∨ i = 47 ∨ i = 48 ∨ i = 49 by omega) with rfl | rfl | rfl | rfl | rfl | rfl
    · rw [g44]; rfl
    · rw [g45]; rfl
    · rw [g46]; rfl
    · rw [g47]; rfl
    · rw [g48]; rfl
    · rw [g49]; rfl
  by_cases h6 : i = 50
  · subst h6
    refine Or.inr ⟨a50, D.1 104, (56, .inr (.inr (.inr (.inr (fun j => if j < 56 then some (aS j) else none))))), _, ?_, rfl, ?_⟩
    · unfold mS mG
      rw [if_neg (by omega), if_neg (by omega), if_neg (by omega), if_neg (by omega), if_neg (by omega), if_neg (by omega), if_pos rfl]
    · refine vc_q fun k hk => ?_
      rw [if_pos hk]
      unfold LL
      rw [if_neg (by omega), if_neg (by omega), if_neg (by omega), if_neg (by omega), if_neg (by omega), if_neg (by omega), if_neg (by omega), if_neg (by omega), if_neg (by omega), if_neg (by omega), if_neg (by omega), if_neg (by omega), if_neg (by omega), if_neg (by omega), if_neg (by omega), if_pos (by omega), Nat.add_sub_cancel_left]
  by_cases h7 : i = 51
  · subst h7
    refine Or.inr ⟨a51, D.1 104, (10, .inr (.inr (.inr (.inr (fun j => if j < 10 then some (aP j) else none))))), _, ?_, rfl, ?_⟩
    · unfold mS
      rw [if_neg (by omega), if_neg (by omega), if_neg (by omega), if_pos rfl]
    · refine vc_q fun k hk => ?_
      rw [if_pos hk]
      unfold LL
      rw [if_neg (by omega), if_neg (by omega), if_neg (by omega), if_neg (by omega), if_neg (by omega), if_neg (by omega), if_neg (by omega), if_neg (by omega), if_neg (by omega), if_neg (by omega), if_neg (by omega), if_neg (by omega), if_neg (by omega), if_pos (by omega), Nat.add_sub_cancel_left]
  by_cases h8 : i = 52
  · subst h8
    refine Or.inr ⟨a52, D.1 104, (4, .inr (.inr (.inr (.inr (fun j => if j < 4 then some (aQ j) else none))))), _, ?_, rfl, ?_⟩
    · unfold mS
      rw [if_neg (by omega), if_pos rfl]
    · refine vc_q fun k hk => ?_
      rw [if_pos hk]
      unfold LL
      rw [if_neg (by omega), if_neg (by omega), if_neg (by omega), if_neg (by omega), if_neg (by omega), if_neg (by omega), if_neg (by omega), if_neg (by omega), if_neg (by omega), if_neg (by omega), if_neg (by omega), if_neg (by omega), if_neg (by omega), if_neg (by omega), if_pos (by omega), Nat.add_sub_cancel_left]
  have l53 : ∀ k, k < 10 → LL h0 f0 f1 f2 f3 a45 a46 a47 a48 a49 a50 a51 a52 aS aG aP aQ (53 + k) = aP k := fun k hk => by
    unfold LL
    rw [if_neg (by omega), if_neg (by omega), if_neg (by omega), if_neg (by omega), if_neg (by omega), if_neg (by omega), if_neg (by omega), if_neg (by omega), if_neg (by omega), if_neg (by omega), if_neg (by omega), if_neg (by omega), if_neg (by omega), if_pos (by omega), Nat.add_sub_cancel_left]
  have l63 : ∀ k, k < 4 → LL h0 f0 f1 f2 f3 a45 a46 a47 a48 a49 a50 a51 a52 aS aG aP aQ (63 + k) = aQ k := fun k hk => by
    unfold LL
    rw [if_neg (by omega), if_neg (by omega), if_neg (by omega), if_neg (by omega), if_neg (by omega), if_neg (by omega), if_neg (by omega), if_neg (by omega), if_neg (by omega), if_neg (by omega), if_neg (by omega), if_neg (by omega), if_neg (by omega), if_neg (by omega), if_pos (by omega), Nat.add_sub_cancel_left]
  have l67 : ∀ k, k < 56 → LL h0 f0 f1 f2 f3 a45 a46 a47 a48 a49 a50 a51 a52 aS aG aP aQ (67 + k) = aS k := fun k hk => by
    unfold LL
    rw [if_neg (by omega), if_neg (by omega), if_neg (by omega), if_neg (by omega), if_neg (by omega), if_neg (by omega), if_neg (by omega), if_neg (by omega), if_neg (by omega), if_neg (by omega), if_neg (by omega), if_neg (by omega), if_neg (by omega), if_neg (by omega), if_neg (by omega), if_pos (by omega), Nat.add_sub_cancel_left]
  have l123 : ∀ k, k < 56 → LL h0 f0 f1 f2 f3 a45 a46 a47 a48 a49 a50 a51 a52 aS aG aP aQ (123 + k) = aG k := fun k hk => by
    unfold LL
    rw [if_neg (by omega), if_neg (by omega), if_neg (by omega), if_neg (by omega), if_neg (by omega), if_neg (by omega), if_neg (by omega), if_neg (by omega), if_neg (by omega), if_neg (by omega), if_neg (by omega), if_neg (by omega), if_neg (by omega), if_neg (by omega), if_neg (by omega), if_neg (by omega), Nat.add_sub_cancel_left]
  refine Or.inl ?_
  by_cases h9 : i < 63
  · obtain ⟨k, rfl⟩ : ∃ k, i = 53 + k := ⟨i - 53, by omega⟩
    rw [cf_spot (by omega), l53 k (by omega)]
    refine Eq.symm ?_
    unfold mS
    rw [if_neg (show ¬ (63 ≤ 53 + k ∧ 53 + k < 63 + 4) by omega), if_neg (show ¬ 53 + k = 52 by omega), if_pos (show 53 ≤ 53 + k ∧ 53 + k < 53 + 10 by omega), Nat.add_sub_cancel_left]
    rfl
  by_cases h10 : i < 67
  · obtain ⟨k, rfl⟩ : ∃ k, i = 63 + k := ⟨i - 63, by omega⟩
    rw [cf_shsl (by omega), l63 k (by omega)]
    refine Eq.symm ?_
    unfold mS
    rw [if_pos (show 63 ≤ 63 + k ∧ 63 + k < 63 + 4 by omega), Nat.add_sub_cancel_left]
    rfl
  by_cases h11 : i < 123
  · obtain ⟨k, rfl⟩ : ∃ k, i = 67 + k := ⟨i - 67, by omega⟩
    rw [cf_gsl (by omega), l67 k (by omega), l123 k (by omega)]
    refine Eq.symm ?_
    unfold mS mG
    rw [if_neg (show ¬ (63 ≤ 67 + k ∧ 67 + k < 63 + 4) by omega), if_neg (show ¬ 67 + k = 52 by omega), if_neg (show ¬ (53 ≤ 67 + k ∧ 67 + k < 53 + 10) by omega), if_neg (show ¬ 67 + k = 51 by omega), if_pos (show 67 ≤ 67 + k ∧ 67 + k < 67 + 56 by omega), Nat.add_sub_cancel_left]
  by_cases h12 : i < 179
  · obtain ⟨k, rfl⟩ : ∃ k, i = 123 + k := ⟨i - 123, by omega⟩
    rw [cf_gl (by omega), l123 k (by omega)]
    refine Eq.symm ?_
    unfold mS mG
    rw [if_neg (show ¬ (63 ≤ 123 + k ∧ 123 + k < 63 + 4) by omega), if_neg (show ¬ 123 + k = 52 by omega), if_neg (show ¬ (53 ≤ 123 + k ∧ 123 + k < 53 + 10) by omega), if_neg (show ¬ 123 + k = 51 by omega), if_neg (show ¬ (67 ≤ 123 + k ∧ 123 + k < 67 + 56) by omega), if_pos (show 123 ≤ 123 + k ∧ 123 + k < 123 + 56 by omega), Nat.add_sub_cancel_left]
    rfl
  · unfold mS mG
    rw [if_neg (show ¬ (63 ≤ i ∧ i < 63 + 4) by omega), if_neg h8, if_neg (show ¬ (53 ≤ i ∧ i < 53 + 10) by omega), if_neg h7, if_neg (show ¬ (67 ≤ i ∧ i < 67 + 56) by omega), if_neg (show ¬ (123 ≤ i ∧ i < 123 + 56) by omega), if_neg h6, gN i (by omega)]
    unfold cfC
    rw [if_neg h4, if_neg h12]
    by_cases h13 : i < 183
    · rw [if_pos h13]; rfl
    · rw [if_neg h13]

set_option maxHeartbeats 2000000 in
theorem n_X0_init {l : Launch} {D : va_G} {A : Nat → Prop} {z : Value × Value} {h0 : Nat} : Met l yX0_init (ws_ yX0_init cX0_init 2 none) ({ frames := 6, cells := 178, slots := 912, locals := 124 } : Room) (va_Pc [.ref h0] (pN D (cadd (fun _ => none) 44 (h0, .inr (0, [.null, .null, .int 0, .null, .null, .null, .int 0, .null, .null, .null, .null]))) A z)) (vQ D A (fun ov cf' => ov = none ∧ ∃ L, L 44 = h0 ∧ cf' = cfC D L xst0)) 178 912 A := by
  refine met_N (by decide) rfl (Nat.le_of_ble_eq_true rfl) ?_
  intro p e s m below meth c ls hx hb hr hml hown hts hlocks hl hI hK hX hin
  have F : CallFix p m c cX0_init 2 s _ lw_all RX0 := ⟨hx, hb, hml, hown, hts⟩
  have hl : lv_has ls 2 [(0, .ref h0)] := hl
  have hS : va_S A s.heap s.heap [] := va_S.rf
  have hap := r_apart (ci := 0) hts in_X0 tyX0 tyX0_ok (fun a ha b hb h => Or.inr (nmX0 a ha b hb h)) hK rfl
  have hA := hX.2.2.2.2
  have lp170 : ∀ (fuel k : Nat), k ≤ 4 → 4 - k < fuel → ∀ (c2 : cmap) (fs : List Value) (a52 : Nat), c2 44 = some (h0, .inr (0, fs)) → fs[9]? = some (.ref a52) → (∀ j, 63 ≤ j → j < 67 → c2 j = none) → (∀ (aQ : Nat → Nat) (H : Heap), hw D (mS D c2 63 52 4 a52 aQ 4) A H → ∃ L, L 44 = h0 ∧ hw D (cfC D L xst0) A H) → ∀ (aP : Nat → Nat) (H : Heap) (locs : List Loc), hw D (mS D c2 63 52 4 a52 aP k) A H → va_S A s.heap H locs → ∀ (ls : Array Slot), lv_has ls 2 [(0, .ref h0), (1, .int (nI k))] → W p l e ({ frames := 6, cells := 178, slots := 912, locals := 124 } : Room) s m ([.ref h0] : List Value).toArray below meth c H locs (174 + k) (908 + k) (MQ below (vQ D A (fun ov cf' => ov = none ∧ ∃ L, L 44 = h0 ∧ cf' = cfC D L xst0)) ([.ref h0] : List Value).toArray s 178 912 A) (F0 m 170 ls []) := by
    intro fuel
    induction fuel with
    | zero => intro k _ hf; exact absurd hf (Nat.not_lt_zero _)
    | succ fuel ih =>
      intro k hk hfu c2 fs a52 h44 hfs hno hnext aP H locs hI hS ls hl
      refine lv_iload_n hx hb dX0_init_170 rfl (lv_at hl 1 rfl) ?_
      refine lv_iconst (v := 4) hx hb dX0_init_171 (by decide) ?_
      refine lv_icmp_ge (tgt := 194) hx hb dX0_init_172 (by decide) (fun c_1 => ?_) (fun c_1 => ?_)
      · have c_1 : 4 ≤ k := (nle (a := 4) (b := k) rfl rfl (by omega) (by omega)).mp c_1
        have ek : k = 4 := by omega
        subst ek
        obtain ⟨L, hL, hI⟩ := hnext aP H hI
        exact W.vret hx hb hr (fun t ht _ => ⟨⟨_, _, rfl, ⟨rfl, L, hL, rfl⟩, by rw [ht]; exact hI⟩, hS.F ht⟩) hS.2.2 dX0_init_194
      · have c_1 : ¬ 4 ≤ k := fun z => c_1 ((nle (a := 4) (b := k) rfl rfl (by omega) (by omega)).mpr z)
        have e44 : mS D c2 63 52 4 a52 aP k 44 = some (h0, .inr (0, fs)) := (if_neg (by omega)).trans ((if_neg (by omega)).trans h44)
        have eA : mS D c2 63 52 4 a52 aP k 52 = some (a52, .inl (D.1 104, 4, .inr (.inr (.inr (.inr (fun j => if j < k then some (aP j) else none)))))) := (if_neg (by omega)).trans (if_pos rfl)
        have eN : mS D c2 63 52 4 a52 aP k (63 + k) = none := (if_neg (by omega)).trans ((if_neg (by omega)).trans (hno _ (by omega) (by omega)))
        refine lv_aload_n hx hb dX0_init_175 rfl (lv_at hl 0 rfl) ?_
        refine r_get (C := RX0) (T := TX0) (N := 11) hx hb hts in_X0 hown hK hI e44 rfl 9 (by decide) (hts _ q407) (fun _ h => h) hfs dX0_init_176 ?_
        refine lv_iload_n hx hb dX0_init_179 rfl (lv_at hl 1 rfl) ?_
        refine r_new (ci := 5) (fs := [.null]) (C := RX5) (T := TX5) (N := 1) (i := 63 + k) hx hb hts in_X5 tyX5 tyX5_ok hown (hts _ q289) (hts _ q291) (hts _ q99) hK hI hS hA rfl (fun j hj => by rcases (show j = 0 by omega) with rfl <;> rfl) (eN) (show 174 + k + 1 ≤ 178 by omega) (show 908 + k + 1 ≤ 912 by omega) dX0_init_180 (fun q H1 hI hS => ?_)
        refine lv_dup hx hb dX0_init_183 rfl ?_
        refine c_m (k_IN (host := "LeftGloves") (As := []) (rest := [.ref q, .int (nI k), .ref a52]) F n_X5_init ⟨va_cnB 0 hts (lw_meth q294) rfl rfl rfl (nm_2 hK) (hts _ q99) (by decide +kernel) ⟨Nat.le_of_ble_eq_true rfl, Nat.le_of_ble_eq_true rfl⟩, rfl, hts _ q293⟩ hI hK hX hS rfl hl.1 rfl (Nat.le_of_ble_eq_true rfl) dX0_init_184 ⟨show 174 + k + 1 ≤ 178 by omega, show 908 + k + 1 ≤ 912 by omega⟩) hS (fun H1 locs1 hI hS => ?_)
        refine r_astS hx hb hK hI hS (i := 52) (i2 := 63 + k) ((cadd_ne (by omega)).trans eA) (cadd_at _ _ _) rfl (by omega) (by decide) dX0_init_187 (fun H1 locs1 hI hS => ?_)
        rw [mS_s (by decide)] at hI
        refine lv_iinc (v := nI (k + 1)) (lv' := [(1, .int (nI (k + 1))), (0, .ref h0)]) hx hb dX0_init_188 hl (k := 1) rfl (nI_1 _) (by decide) rfl (fun ls hl => ?_)
        refine lv_goto (tgt := 170) hx hb dX0_init_191 (by decide) ?_
        exact ih (k + 1) (by omega) (by omega) c2 fs a52 h44 hfs hno hnext _ _ _ hI hS ls (lv_sub hl [1, 0] rfl)
  have lp143 : ∀ (fuel k : Nat), k ≤ 10 → 10 - k < fuel → ∀ (c2 : cmap) (fs : List Value) (a51 : Nat), c2 44 = some (h0, .inr (0, fs)) → fs[8]? = some (.ref a51) → (∀ j, 53 ≤ j → j < 63 → c2 j = none) → (∃ a52, fs[9]? = some (.ref a52) ∧ c2 52 = some (a52, .inl (D.1 104, 4, .inr (.inr (.inr (.inr (fun _ => none)))))) ∧ (∀ j, 63 ≤ j → j < 67 → c2 j = none) ∧ ∀ (aP aQ : Nat → Nat) (H : Heap), hw D (mS D (mS D c2 53 51 10 a51 aP 10) 63 52 4 a52 aQ 4) A H → ∃ L, L 44 = h0 ∧ hw D (cfC D L xst0) A H) → ∀ (aP : Nat → Nat) (H : Heap) (locs : List Loc), hw D (mS D c2 53 51 10 a51 aP k) A H → va_S A s.heap H locs → ∀ (ls : Array Slot), lv_has ls 2 [(0, .ref h0), (1, .int (nI k))] → W p l e ({ frames := 6, cells := 178, slots := 912, locals := 124 } : Room) s m ([.ref h0] : List Value).toArray below meth c H locs (164 + k) (898 + k) (MQ below (vQ D A (fun ov cf' => ov = none ∧ ∃ L, L 44 = h0 ∧ cf' = cfC D L xst0)) ([.ref h0] : List Value).toArray s 178 912 A) (F0 m 143 ls []) := by
    intro fuel
    induction fuel with
    | zero => intro k _ hf; exact absurd hf (Nat.not_lt_zero _)
    | succ fuel ih =>
      intro k hk hfu c2 fs a51 h44 hfs hno hnext aP H locs hI hS ls hl
      refine lv_iload_n hx hb dX0_init_143 rfl (lv_at hl 1 rfl) ?_
      refine lv_bipush (v := 10) hx hb dX0_init_144 (by decide) ?_
      refine lv_icmp_ge (tgt := 168) hx hb dX0_init_146 (by decide) (fun c_1 => ?_) (fun c_1 => ?_)
      · have c_1 : 10 ≤ k := (nle (a := 10) (b := k) rfl rfl (by omega) (by omega)).mp c_1
        have ek : k = 10 := by omega
        subst ek
        obtain ⟨a52, hfs2, g52, hno2, hn2⟩ := hnext
        refine lv_iconst (v := 0) hx hb dX0_init_168 (by decide) ?_
        refine lv_istore_n (lv' := [(1, .int 0), (0, .ref h0)]) hx hb dX0_init_169 rfl hl (by decide) rfl (fun ls hl => ?_)
        refine lp170 5 0 (by decide) (by decide) (mS D c2 53 51 10 a51 aP 10) fs a52 ((if_neg (by omega)).trans ((if_neg (by omega)).trans h44)) hfs2 (fun j h1 h2 => (if_neg (by omega)).trans ((if_neg (by omega)).trans (hno2 j h1 h2))) (hn2 aP) (fun _ => 0) _ _ ?_ hS ls (lv_sub hl [1, 0] rfl)
        rw [mS_0 ((if_neg (by omega)).trans ((if_neg (by omega)).trans g52))]
        exact hI
      · have c_1 : ¬ 10 ≤ k := fun z => c_1 ((nle (a := 10) (b := k) rfl rfl (by omega) (by omega)).mpr z)
        have e44 : mS D c2 53 51 10 a51 aP k 44 = some (h0, .inr (0, fs)) := (if_neg (by omega)).trans ((if_neg (by omega)).trans h44)
        have eA : mS D c2 53 51 10 a51 aP k 51 = some (a51, .inl (D.1 104, 10, .inr (.inr (.inr (.inr (fun j => if j < k then some (aP j) else none)))))) := (if_neg (by omega)).trans (if_pos rfl)
        have eN : mS D c2 53 51 10 a51 aP k (53 + k) = none := (if_neg (by omega)).trans ((if_neg (by omega)).trans (hno _ (by omega) (by omega)))
        refine lv_aload_n hx hb dX0_init_149 rfl (lv_at hl 0 rfl) ?_
        refine r_get (C := RX0) (T := TX0) (N := 11) hx hb hts in_X0 hown hK hI e44 rfl 8 (by decide) (hts _ q406) (fun _ h => h) hfs dX0_init_150 ?_
        refine lv_iload_n hx hb dX0_init_153 rfl (lv_at hl 1 rfl) ?_
        refine r_new (ci := 5) (fs := [.null]) (C := RX5) (T := TX5) (N := 1) (i := 53 + k) hx hb hts in_X5 tyX5 tyX5_ok hown (hts _ q289) (hts _ q291) (hts _ q99) hK hI hS hA rfl (fun j hj => by rcases (show j = 0 by omega) with rfl <;> rfl) (eN) (show 164 + k + 1 ≤ 178 by omega) (show 898 + k + 1 ≤ 912 by omega) dX0_init_154 (fun q H1 hI hS => ?_)
        refine lv_dup hx hb dX0_init_157 rfl ?_
        refine c_m (k_IN (host := "LeftGloves") (As := []) (rest := [.ref q, .int (nI k), .ref a51]) F n_X5_init ⟨va_cnB 0 hts (lw_meth q294) rfl rfl rfl (nm_2 hK) (hts _ q99) (by decide +kernel) ⟨Nat.le_of_ble_eq_true rfl, Nat.le_of_ble_eq_true rfl⟩, rfl, hts _ q293⟩ hI hK hX hS rfl hl.1 rfl (Nat.le_of_ble_eq_true rfl) dX0_init_158 ⟨show 164 + k + 1 ≤ 178 by omega, show 898 + k + 1 ≤ 912 by omega⟩) hS (fun H1 locs1 hI hS => ?_)
        refine r_astS hx hb hK hI hS (i := 51) (i2 := 53 + k) ((cadd_ne (by omega)).trans eA) (cadd_at _ _ _) rfl (by omega) (by decide) dX0_init_161 (fun H1 locs1 hI hS => ?_)
        rw [mS_s (by decide)] at hI
        refine lv_iinc (v := nI (k + 1)) (lv' := [(1, .int (nI (k + 1))), (0, .ref h0)]) hx hb dX0_init_162 hl (k := 1) rfl (nI_1 _) (by decide) rfl (fun ls hl => ?_)
        refine lv_goto (tgt := 143) hx hb dX0_init_165 (by decide) ?_
        exact ih (k + 1) (by omega) (by omega) c2 fs a51 h44 hfs hno hnext _ _ _ hI hS ls (lv_sub hl [1, 0] rfl)
  have lp95 : ∀ (fuel k : Nat), k ≤ 56 → 56 - k < fuel → ∀ (c2 : cmap) (f0 f1 f2 f3 : Nat → Nat) (a45 a46 a47 a48 a49 a50 a51 a52 : Nat), M1 D c2 h0 f0 f1 f2 f3 a45 a46 a47 a48 a49 a50 a51 a52 → ∀ (aS aG : Nat → Nat) (H : Heap) (locs : List Loc), hw D (mG D c2 h0 a50 aS aG k) A H → va_S A s.heap H locs → ∀ (ls : Array Slot), lv_has ls 2 [(0, .ref h0), (1, .int (nI k))] → W p l e ({ frames := 6, cells := 178, slots := 912, locals := 124 } : Room) s m ([.ref h0] : List Value).toArray below meth c H locs (52 + 2 * k) (562 + 6 * k) (MQ below (vQ D A (fun ov cf' => ov = none ∧ ∃ L, L 44 = h0 ∧ cf' = cfC D L xst0)) ([.ref h0] : List Value).toArray s 178 912 A) (F0 m 95 ls []) := by
    intro fuel
    induction fuel with
    | zero => intro k _ hf; exact absurd hf (Nat.not_lt_zero _)
    | succ fuel ih =>
      intro k hk hfu c2 f0 f1 f2 f3 a45 a46 a47 a48 a49 a50 a51 a52 hM aS aG H locs hI hS ls hl
      obtain ⟨g0, g1, g2, g3, g44, g45, g46, g47, g48, g49, g50, g51, g52, gN⟩ := id hM
      refine lv_iload_n hx hb dX0_init_95 rfl (lv_at hl 1 rfl) ?_
      refine lv_bipush (v := 56) hx hb dX0_init_96 (by decide) ?_
      refine lv_icmp_ge (tgt := 141) hx hb dX0_init_98 (by decide) (fun c_1 => ?_) (fun c_1 => ?_)
      · have c_1 : 56 ≤ k := (nle (a := 56) (b := k) rfl rfl (by omega) (by omega)).mp c_1
        have ek : k = 56 := by omega
        subst ek
        refine lv_iconst (v := 0) hx hb dX0_init_141 (by decide) ?_
        refine lv_istore_n (lv' := [(1, .int 0), (0, .ref h0)]) hx hb dX0_init_142 rfl hl (by decide) rfl (fun ls hl => ?_)
        have gm : ∀ j, j ≠ 50 → (j < 67 ∨ 179 ≤ j) → mG D c2 h0 a50 aS aG 56 j = c2 j := fun j h1 h2 => (if_neg (by omega)).trans ((if_neg (by omega)).trans (if_neg h1))
        refine lp143 11 0 (by decide) (by decide) (mG D c2 h0 a50 aS aG 56) _ a51 ((gm 44 (by decide) (by decide)).trans g44) rfl (fun j h1 h2 => (gm j (by omega) (by omega)).trans (gN j h1)) ⟨a52, rfl, (gm 52 (by decide) (by decide)).trans g52, fun j h1 h2 => (gm j (by omega) (by omega)).trans (gN j (by omega)), fun aP aQ H h => ⟨_, rfl, M1_end hM h⟩⟩ (fun _ => 0) _ _ ?_ hS ls (lv_sub hl [1, 0] rfl)
        rw [mS_0 ((gm 51 (by decide) (by decide)).trans g51)]
        exact hI
      · have c_1 : ¬ 56 ≤ k := fun z => c_1 ((nle (a := 56) (b := k) rfl rfl (by omega) (by omega)).mpr z)
        have hk2 : k < 56 := by omega
        have e44 : mG D c2 h0 a50 aS aG k 44 = some (h0, .inr (0, [.ref a45, .ref a46, .int 0, .ref (f0 0), .ref (f1 0), .ref (f2 0), .int 0, .ref a50, .ref a51, .ref a52, .ref a49])) := (if_neg (by omega)).trans ((if_neg (by omega)).trans ((if_neg (by omega)).trans g44))
        have eA : mG D c2 h0 a50 aS aG k 50 = some (a50, .inl (D.1 104, 56, .inr (.inr (.inr (.inr (fun j => if j < k then some (aS j) else none)))))) := (if_neg (by omega)).trans ((if_neg (by omega)).trans (if_pos rfl))
        have eN : mG D c2 h0 a50 aS aG k (67 + k) = none := (if_neg (by omega)).trans ((if_neg (by omega)).trans ((if_neg (by omega)).trans (gN _ (by omega))))
        have eN2 : mG D c2 h0 a50 aS aG k (123 + k) = none := (if_neg (by omega)).trans ((if_neg (by omega)).trans ((if_neg (by omega)).trans (gN _ (by omega))))
        refine lv_aload_n hx hb dX0_init_101 rfl (lv_at hl 0 rfl) ?_
        refine r_get (C := RX0) (T := TX0) (N := 11) hx hb hts in_X0 hown hK hI e44 rfl 7 (by decide) (hts _ q405) (fun _ h => h) rfl dX0_init_102 ?_
        refine lv_iload_n hx hb dX0_init_105 rfl (lv_at hl 1 rfl) ?_
        refine r_new (ci := 5) (fs := [.null]) (C := RX5) (T := TX5) (N := 1) (i := 67 + k) hx hb hts in_X5 tyX5 tyX5_ok hown (hts _ q289) (hts _ q291) (hts _ q99) hK hI hS hA rfl (fun j hj => by rcases (show j = 0 by omega) with rfl <;> rfl) (eN) (show 52 + 2 * k + 1 ≤ 178 by omega) (show 562 + 6 * k + 1 ≤ 912 by omega) dX0_init_106 (fun q H1 hI hS => ?_)
        refine lv_dup hx hb dX0_init_109 rfl ?_
        refine c_m (k_IN (host := "LeftGloves") (As := []) (rest := [.ref q, .int (nI k), .ref a50]) F n_X5_init ⟨va_cnB 0 hts (lw_meth q294) rfl rfl rfl (nm_2 hK) (hts _ q99) (by decide +kernel) ⟨Nat.le_of_ble_eq_true rfl, Nat.le_of_ble_eq_true rfl⟩, rfl, hts _ q293⟩ hI hK hX hS rfl hl.1 rfl (Nat.le_of_ble_eq_true rfl) dX0_init_110 ⟨show 52 + 2 * k + 1 ≤ 178 by omega, show 562 + 6 * k + 1 ≤ 912 by omega⟩) hS (fun H1 locs1 hI hS => ?_)
        refine r_astS hx hb hK hI hS (i := 50) (i2 := 67 + k) ((cadd_ne (by omega)).trans eA) (cadd_at _ _ _) rfl (by omega) (by decide) dX0_init_113 (fun H1 locs1 hI hS => ?_)
        refine lv_aload_n hx hb dX0_init_114 rfl (lv_at hl 0 rfl) ?_
        refine r_get (C := RX0) (T := TX0) (N := 11) hx hb hts in_X0 hown hK hI ((cadd_ne (by omega)).trans ((cadd_ne (by omega)).trans e44)) rfl 7 (by decide) (hts _ q405) (fun _ h => h) rfl dX0_init_115 ?_
        refine lv_iload_n hx hb dX0_init_118 rfl (lv_at hl 1 rfl) ?_
        refine r_aaldS (b := q) hx hb hK hI (cadd_at _ _ _) (vp_c rfl hk2 (by decide)) (by rw [cl_c rfl hk2 (by decide)]; exact if_pos rfl) dX0_init_119 ?_
        refine lv_aload_n hx hb dX0_init_120 rfl (lv_at hl 0 rfl) ?_
        refine lv_iload_n hx hb dX0_init_121 rfl (lv_at hl 1 rfl) ?_
        refine lv_bipush (v := 8) hx hb dX0_init_122 (by decide) ?_
        refine lv_idiv hx hb dX0_init_124 (by decide) ?_
        refine lv_iload_n hx hb dX0_init_125 rfl (lv_at hl 1 rfl) ?_
        refine lv_bipush (v := 8) hx hb dX0_init_126 (by decide) ?_
        refine lv_irem hx hb dX0_init_128 (by decide) ?_
        rw [(kk_8 hk2).2, (kk_8 hk2).1]
        refine c_n (k_VNw (As := [.int (nI (k / 8)), .int (nI (k % 8))]) (rest := [.ref q]) F (n_X0_made (κ := k / 8) (i0 := 123 + k) (by omega) ((cadd_ne (by omega)).trans ((cadd_ne (by omega)).trans eN2))) (cwV 2 hts (lw_V q300 q302 qs1 q91 q303) rfl rfl rfl (by decide +kernel) ⟨Nat.le_of_ble_eq_true rfl, Nat.le_of_ble_eq_true rfl⟩) hI hK hX hS (hw.recv hI hK ((cadd_ne (by omega)).trans ((cadd_ne (by omega)).trans e44)) rfl) rfl hl.1 rfl (Nat.le_of_ble_eq_true rfl) dX0_init_129 ⟨show 52 + 2 * k + 1 + 1 ≤ 178 by omega, show 562 + 6 * k + 1 + 5 ≤ 912 by omega⟩) hS (fun ov cf9 H1 locs1 hP hI hS => ?_)
        obtain ⟨a, rfl, rfl⟩ := hP
        refine W.widen (k := 52 + 2 * (k + 1)) (n := 562 + 6 * (k + 1)) (by omega) (by omega) ?_
        show W p l e _ s m _ below meth c H1 locs1 _ _ _ (F0 m 132 ls [.ref a, .ref q])
        refine r_putN (C := RX5) (T := TX5) (N := 1) (cf' := cadd _ (67 + k) (q, .inr (5, [.ref a]))) hx hb hts in_X5 tyX5 tyX5_ok nmX5 hown hK hI hS (i := 67 + k) ((cadd_ne (by omega)).trans ((cadd_ne (by omega)).trans (cadd_at _ _ _))) rfl 0 (by decide) (nf_16 hK) (fun _ h => h) rfl (ty := .object "java/lang/Object") (by decide +kernel) rfl rfl (Nat.le_of_ble_eq_true rfl) (fun _ => rfl) dX0_init_132 (fun H1 locs1 hI hS => ?_)
        rw [mG_s hk2] at hI
        refine lv_iinc (v := nI (k + 1)) (lv' := [(1, .int (nI (k + 1))), (0, .ref h0)]) hx hb dX0_init_135 hl (k := 1) rfl (nI_1 _) (by decide) rfl (fun ls hl => ?_)
        refine lv_goto (tgt := 95) hx hb dX0_init_138 (by decide) ?_
        exact ih (k + 1) (by omega) (by omega) c2 f0 f1 f2 f3 a45 a46 a47 a48 a49 a50 a51 a52 hM _ _ _ _ hI hS ls (lv_sub hl [1, 0] rfl)
  refine lv_aload_n hx hb dX0_init_0 rfl (lv_at hl 0 rfl) ?_
  refine W.objInit hx hb hown (hts _ q120) (hts _ q121) (hts _ q122) rfl (by rw [hml]; exact hl.1) rfl dX0_init_1 (Nat.le_of_ble_eq_true rfl) (Nat.le_of_ble_eq_true rfl) ?_
  refine W.eq (g2 := F0 m 4 ls []) rfl ?_
  refine lv_aload_n hx hb dX0_init_4 rfl (lv_at hl 0 rfl) ?_
  refine r_new (ci := 1) (fs := [.null, .null, .null, .null, .null, .int 0, .int 0]) (C := RX1) (T := TX1) (N := 7) (i := 45) hx hb hts in_X1 tyX1 tyX1_ok hown (hts _ q123) (hts _ q124) (hts _ q95) hK hI hS hA rfl (fun j hj => by rcases (show j = 0 ∨ j = 1 ∨ j = 2 ∨ j = 3 ∨ j = 4 ∨ j = 5 ∨ j = 6 by omega) with rfl | rfl | rfl | rfl | rfl | rfl | rfl <;> rfl) (cadd_ne (by decide)) (Nat.le_of_ble_eq_true rfl) (Nat.le_of_ble_eq_true rfl) dX0_init_5 (fun a45 H1 hI hS => ?_)
  refine W.widen (k := 1) (n := 7) (Nat.le_of_ble_eq_true rfl) (Nat.le_of_ble_eq_true rfl) ?_
  refine lv_dup hx hb dX0_init_8 rfl ?_
  refine c_m (k_I (As := []) (rest := [.ref a45, .ref h0]) F (n_X1_init (i0 := 45) (cadd_at _ _ _)) (cwI 0 hts (lw_meth q165) rfl rfl rfl (hts _ q95) (hts _ q163) (hts _ q164) rfl (by decide +kernel) ⟨Nat.le_of_ble_eq_true rfl, Nat.le_of_ble_eq_true rfl⟩) hI hK hX hS rfl hl.1 rfl (Nat.le_of_ble_eq_true rfl) dX0_init_9 ⟨Nat.le_of_ble_eq_true rfl, Nat.le_of_ble_eq_true rfl⟩) hS (fun H1 locs1 hI hS => ?_)
  refine r_putF (C := RX0) (T := TX0) (N := 11) (ty := (.object "LeftGloves$Refusal")) hx hb hts in_X0 hap hown hK hI hS (i := 44) ((cadd_ne (by decide)).trans (cadd_at _ _ _)) rfl 0 (by decide) (hts _ q396) (fun _ h => h) rfl hin rfl (by decide +kernel) rfl rfl (Nat.le_of_ble_eq_true rfl) dX0_init_12 (fun H1 locs1 hI hS => ?_)
  refine lv_aload_n hx hb dX0_init_15 rfl (lv_at hl 0 rfl) ?_
  refine r_new (ci := 2) (fs := [.null, .null, .null, .int 0, .int 0, .int 0, .int 0, .int 0]) (C := RX2) (T := TX2) (N := 8) (i := 46) hx hb hts in_X2 tyX2 tyX2_ok hown (hts _ q191) (hts _ q192) (hts _ q96) hK hI hS hA rfl (fun j hj => by rcases (show j = 0 ∨ j = 1 ∨ j = 2 ∨ j = 3 ∨ j = 4 ∨ j = 5 ∨ j = 6 ∨ j = 7 by omega) with rfl | rfl | rfl | rfl | rfl | rfl | rfl | rfl <;> rfl) (by rw [cadd_ne (by decide), cadd_ne (by decide), cadd_ne (by decide)]) (Nat.le_of_ble_eq_true rfl) (Nat.le_of_ble_eq_true rfl) dX0_init_16 (fun a46 H1 hI hS => ?_)
  refine W.widen (k := 2) (n := 15) (Nat.le_of_ble_eq_true rfl) (Nat.le_of_ble_eq_true rfl) ?_
  refine lv_dup hx hb dX0_init_19 rfl ?_
  refine c_n (k_IN (host := "LeftGloves") (As := []) (rest := [.ref a46, .ref h0]) F (n_X2_init (cadd_at _ _ _) (by rw [cadd_ne (by decide), cadd_ne (by decide), cadd_ne (by decide), cadd_ne (by decide)]) (by rw [cadd_ne (by decide), cadd_ne (by decide), cadd_ne (by decide), cadd_ne (by decide)]) (fun k hk => by rw [cadd_ne (by omega), cadd_ne (by omega), cadd_ne (by omega), cadd_ne (by omega)])) ⟨va_cnB 0 hts (lw_meth q195) rfl rfl rfl (nm_0 hK) (hts _ q96) (by decide +kernel) ⟨Nat.le_of_ble_eq_true rfl, Nat.le_of_ble_eq_true rfl⟩, rfl, hts _ q194⟩ hI hK hX hS rfl hl.1 rfl (Nat.le_of_ble_eq_true rfl) dX0_init_20 ⟨Nat.le_of_ble_eq_true rfl, Nat.le_of_ble_eq_true rfl⟩) hS (fun ov cf9 H1 locs1 hP hI hS => ?_)
  obtain ⟨rfl, a47, a48, f3, rfl⟩ := hP
  refine W.widen (k := 15) (n := 227) (Nat.le_of_ble_eq_true rfl) (Nat.le_of_ble_eq_true rfl) ?_
  show W p l e _ s m _ below meth c H1 locs1 15 227 _ (F0 m 23 ls [.ref a46, .ref h0])
  have N1 : ∀ j, (j < 33 ∨ 49 ≤ j) → cadd (cwf D f3 (cadd (cadd (cadd (cadd (cadd (cadd (fun _ => none) 44 (h0, .inr (0, [.null, .null, .int 0, .null, .null, .null, .int 0, .null, .null, .null, .null]))) 45 (a45, .inr (1, [.null, .null, .null, .null, .null, .int 0, .int 0]))) 44 (h0, .inr (0, [.ref a45, .null, .int 0, .null, .null, .null, .int 0, .null, .null, .null, .null]))) 46 (a46, .inr (2, [.null, .null, .null, .int 0, .int 0, .int 0, .int 0, .int 0]))) 47 (a47, .inr (3, [.null, .null, .null, .null, .null, .int 0]))) 48 (a48, .inl (D.1 101, 120, .inl (fun _ => 0)))) 33 w0) 46 (a46, .inr (2, [.ref a47, .ref a48, .ref (f3 0), .int 0, .int 0, .int 0, .int 0, .int 0])) j = none := fun j hj => by rw [cadd_ne (by omega), cwf_ne (by omega), cadd_ne (by omega), cadd_ne (by omega), cadd_ne (by omega), cadd_ne (by omega), cadd_ne (by omega), cadd_ne (by omega)]
  skip
  obtain ⟨cR, eR⟩ : ∃ c, c = cadd (cwf D f3 (cadd (cadd (cadd (cadd (cadd (cadd (fun _ => none) 44 (h0, .inr (0, [.null, .null, .int 0, .null, .null, .null, .int 0, .null, .null, .null, .null]))) 45 (a45, .inr (1, [.null, .null, .null, .null, .null, .int 0, .int 0]))) 44 (h0, .inr (0, [.ref a45, .null, .int 0, .null, .null, .null, .int 0, .null, .null, .null, .null]))) 46 (a46, .inr (2, [.null, .null, .null, .int 0, .int 0, .int 0, .int 0, .int 0]))) 47 (a47, .inr (3, [.null, .null, .null, .null, .null, .int 0]))) 48 (a48, .inl (D.1 101, 120, .inl (fun _ => 0)))) 33 w0) 46 (a46, .inr (2, [.ref a47, .ref a48, .ref (f3 0), .int 0, .int 0, .int 0, .int 0, .int 0])) := ⟨_, rfl⟩
  have hI : hw D cR A H1 := by rw [eR]; exact hI
  rw [← eR] at N1
  have r44 : cR 44 = some (h0, .inr (0, [.ref a45, .null, .int 0, .null, .null, .null, .int 0, .null, .null, .null, .null])) := by rw [eR, cadd_ne (by decide), cwf_ne (by decide), cadd_ne (by decide), cadd_ne (by decide), cadd_ne (by decide), cadd_at]
  have r45 : cR 45 = some (a45, .inr (1, [.null, .null, .null, .null, .null, .int 0, .int 0])) := by rw [eR, cadd_ne (by decide), cwf_ne (by decide), cadd_ne (by decide), cadd_ne (by decide), cadd_ne (by decide), cadd_ne (by decide), cadd_at]
  have r46 : cR 46 = some (a46, .inr (2, [.ref a47, .ref a48, .ref (f3 0), .int 0, .int 0, .int 0, .int 0, .int 0])) := by rw [eR, cadd_at]
  have r47 : cR 47 = some (a47, .inr (3, [.null, .null, .null, .null, .null, .int 0])) := by rw [eR, cadd_ne (by decide), cwf_ne (by decide), cadd_ne (by decide), cadd_at]
  have r48 : cR 48 = some (a48, .inl (D.1 101, 120, .inl (fun _ => 0))) := by rw [eR, cadd_ne (by decide), cwf_ne (by decide), cadd_at]
  have r3 : ∀ k, k < 11 → cR (33 + k) = some (f3 k, cw_w D (fun i => f3 (i - 33)) w0 33 k) := fun k hk => by rw [eR, cadd_ne (by omega), cwf_at hk]
  clear eR
  refine r_putF (C := RX0) (T := TX0) (N := 11) (ty := (.object "LeftGloves$Reader")) hx hb hts in_X0 hap hown hK hI hS (i := 44) (r44) rfl 1 (by decide) (hts _ q397) (fun _ h => h) rfl hin rfl (by decide +kernel) rfl rfl (Nat.le_of_ble_eq_true rfl) dX0_init_23 (fun H1 locs1 hI hS => ?_)
  refine lv_aload_n hx hb dX0_init_26 rfl (lv_at hl 0 rfl) ?_
  refine r_new (ci := 4) (fs := [.null, .int 0, .null, .int 0, .int 0, .int 0, .null]) (C := RX4) (T := TX4) (N := 7) (i := 0) hx hb hts in_X4 tyX4 tyX4_ok hown (hts _ q287) (hts _ q213) (hts _ q98) hK hI hS hA rfl (fun j hj => by rcases (show j = 0 ∨ j = 1 ∨ j = 2 ∨ j = 3 ∨ j = 4 ∨ j = 5 ∨ j = 6 by omega) with rfl | rfl | rfl | rfl | rfl | rfl | rfl <;> rfl) (by rw [cadd_ne (by omega)]; exact N1 0 (by omega)) (Nat.le_of_ble_eq_true rfl) (Nat.le_of_ble_eq_true rfl) dX0_init_27 (fun a0 H1 hI hS => ?_)
  refine W.widen (k := 16) (n := 234) (Nat.le_of_ble_eq_true rfl) (Nat.le_of_ble_eq_true rfl) ?_
  refine lv_dup hx hb dX0_init_30 rfl ?_
  refine c_n (k_I (As := []) (rest := [.ref a0, .ref h0]) F (n_X4_init (b := 0) (cadd_at _ _ _) (fun k h1 h2 => by rw [cadd_ne (by omega), cadd_ne (by omega)]; exact N1 (0 + k) (by omega))) (cwI 0 hts (lw_meth q216) rfl rfl rfl (hts _ q98) (hts _ q288) (hts _ q215) rfl (by decide +kernel) ⟨Nat.le_of_ble_eq_true rfl, Nat.le_of_ble_eq_true rfl⟩) hI hK hX hS rfl hl.1 rfl (Nat.le_of_ble_eq_true rfl) dX0_init_31 ⟨Nat.le_of_ble_eq_true rfl, Nat.le_of_ble_eq_true rfl⟩) hS (fun ov cf9 H1 locs1 hP hI hS => ?_)
  obtain ⟨rfl, f0, hf0, rfl⟩ := hP
  refine W.widen (k := 26) (n := 313) (Nat.le_of_ble_eq_true rfl) (Nat.le_of_ble_eq_true rfl) ?_
  show W p l e _ s m _ below meth c H1 locs1 26 313 _ (F0 m 34 ls [.ref a0, .ref h0])
  refine r_putF (C := RX0) (T := TX0) (N := 11) (ty := (.object "LeftGloves$World")) hx hb hts in_X0 hap hown hK hI hS (i := 44) ((cwf_ne (by decide)).trans ((cadd_ne (by decide)).trans (cadd_at _ _ _))) rfl 3 (by decide) (hts _ q401) (fun _ h => h) rfl hin rfl (by decide +kernel) rfl rfl (Nat.le_of_ble_eq_true rfl) dX0_init_34 (fun H1 locs1 hI hS => ?_)
  refine lv_aload_n hx hb dX0_init_37 rfl (lv_at hl 0 rfl) ?_
  refine r_new (ci := 4) (fs := [.null, .int 0, .null, .int 0, .int 0, .int 0, .null]) (C := RX4) (T := TX4) (N := 7) (i := 11) hx hb hts in_X4 tyX4 tyX4_ok hown (hts _ q287) (hts _ q213) (hts _ q98) hK hI hS hA rfl (fun j hj => by rcases (show j = 0 ∨ j = 1 ∨ j = 2 ∨ j = 3 ∨ j = 4 ∨ j = 5 ∨ j = 6 by omega) with rfl | rfl | rfl | rfl | rfl | rfl | rfl <;> rfl) (by rw [cadd_ne (by omega), cwf_ne (by omega), cadd_ne (by omega), cadd_ne (by omega)]; exact N1 11 (by omega)) (Nat.le_of_ble_eq_true rfl) (Nat.le_of_ble_eq_true rfl) dX0_init_38 (fun a11 H1 hI hS => ?_)
  refine W.widen (k := 27) (n := 320) (Nat.le_of_ble_eq_true rfl) (Nat.le_of_ble_eq_true rfl) ?_
  refine lv_dup hx hb dX0_init_41 rfl ?_
  refine c_n (k_I (As := []) (rest := [.ref a11, .ref h0]) F (n_X4_init (b := 11) (cadd_at _ _ _) (fun k h1 h2 => by rw [cadd_ne (by omega), cadd_ne (by omega), cwf_ne (by omega), cadd_ne (by omega), cadd_ne (by omega)]; exact N1 (11 + k) (by omega))) (cwI 0 hts (lw_meth q216) rfl rfl rfl (hts _ q98) (hts _ q288) (hts _ q215) rfl (by decide +kernel) ⟨Nat.le_of_ble_eq_true rfl, Nat.le_of_ble_eq_true rfl⟩) hI hK hX hS rfl hl.1 rfl (Nat.le_of_ble_eq_true rfl) dX0_init_42 ⟨Nat.le_of_ble_eq_true rfl, Nat.le_of_ble_eq_true rfl⟩) hS (fun ov cf9 H1 locs1 hP hI hS => ?_)
  obtain ⟨rfl, f1, hf1, rfl⟩ := hP
  refine W.widen (k := 37) (n := 399) (Nat.le_of_ble_eq_true rfl) (Nat.le_of_ble_eq_true rfl) ?_
  show W p l e _ s m _ below meth c H1 locs1 37 399 _ (F0 m 45 ls [.ref a11, .ref h0])
  refine r_putF (C := RX0) (T := TX0) (N := 11) (ty := (.object "LeftGloves$World")) hx hb hts in_X0 hap hown hK hI hS (i := 44) ((cwf_ne (by decide)).trans ((cadd_ne (by decide)).trans (cadd_at _ _ _))) rfl 4 (by decide) (hts _ q402) (fun _ h => h) rfl hin rfl (by decide +kernel) rfl rfl (Nat.le_of_ble_eq_true rfl) dX0_init_45 (fun H1 locs1 hI hS => ?_)
  refine lv_aload_n hx hb dX0_init_48 rfl (lv_at hl 0 rfl) ?_
  refine r_new (ci := 4) (fs := [.null, .int 0, .null, .int 0, .int 0, .int 0, .null]) (C := RX4) (T := TX4) (N := 7) (i := 22) hx hb hts in_X4 tyX4 tyX4_ok hown (hts _ q287) (hts _ q213) (hts _ q98) hK hI hS hA rfl (fun j hj => by rcases (show j = 0 ∨ j = 1 ∨ j = 2 ∨ j = 3 ∨ j = 4 ∨ j = 5 ∨ j = 6 by omega) with rfl | rfl | rfl | rfl | rfl | rfl | rfl <;> rfl) (by rw [cadd_ne (by omega), cwf_ne (by omega), cadd_ne (by omega), cadd_ne (by omega), cwf_ne (by omega), cadd_ne (by omega), cadd_ne (by omega)]; exact N1 22 (by omega)) (Nat.le_of_ble_eq_true rfl) (Nat.le_of_ble_eq_true rfl) dX0_init_49 (fun a22 H1 hI hS => ?_)
  refine W.widen (k := 38) (n := 406) (Nat.le_of_ble_eq_true rfl) (Nat.le_of_ble_eq_true rfl) ?_
  refine lv_dup hx hb dX0_init_52 rfl ?_
  refine c_n (k_I (As := []) (rest := [.ref a22, .ref h0]) F (n_X4_init (b := 22) (cadd_at _ _ _) (fun k h1 h2 => by rw [cadd_ne (by omega), cadd_ne (by omega), cwf_ne (by omega), cadd_ne (by omega), cadd_ne (by omega), cwf_ne (by omega), cadd_ne (by omega), cadd_ne (by omega)]; exact N1 (22 + k) (by omega))) (cwI 0 hts (lw_meth q216) rfl rfl rfl (hts _ q98) (hts _ q288) (hts _ q215) rfl (by decide +kernel) ⟨Nat.le_of_ble_eq_true rfl, Nat.le_of_ble_eq_true rfl⟩) hI hK hX hS rfl hl.1 rfl (Nat.le_of_ble_eq_true rfl) dX0_init_53 ⟨Nat.le_of_ble_eq_true rfl, Nat.le_of_ble_eq_true rfl⟩) hS (fun ov cf9 H1 locs1 hP hI hS => ?_)
  obtain ⟨rfl, f2, hf2, rfl⟩ := hP
  refine W.widen (k := 48) (n := 485) (Nat.le_of_ble_eq_true rfl) (Nat.le_of_ble_eq_true rfl) ?_
  show W p l e _ s m _ below meth c H1 locs1 48 485 _ (F0 m 56 ls [.ref a22, .ref h0])
  refine r_putF (C := RX0) (T := TX0) (N := 11) (ty := (.object "LeftGloves$World")) hx hb hts in_X0 hap hown hK hI hS (i := 44) ((cwf_ne (by decide)).trans ((cadd_ne (by decide)).trans (cadd_at _ _ _))) rfl 5 (by decide) (hts _ q403) (fun _ h => h) rfl hin rfl (by decide +kernel) rfl rfl (Nat.le_of_ble_eq_true rfl) dX0_init_56 (fun H1 locs1 hI hS => ?_)
  refine lv_aload_n hx hb dX0_init_59 rfl (lv_at hl 0 rfl) ?_
  refine lv_bipush (v := 56) hx hb dX0_init_60 (by decide) ?_
  refine r_newq (N := 56) (i := 50) hx hb hown (hts _ q289) hX hK hI hS hA (by rw [cadd_ne (by omega), cwf_ne (by omega), cadd_ne (by omega), cadd_ne (by omega), cwf_ne (by omega), cadd_ne (by omega), cadd_ne (by omega), cwf_ne (by omega), cadd_ne (by omega), cadd_ne (by omega)]; exact N1 50 (by omega)) (by decide) (by decide) (by decide) (Nat.le_of_ble_eq_true rfl) (Nat.le_of_ble_eq_true rfl) dX0_init_62 (fun a50 H1 hI hS => ?_)
  refine W.widen (k := 49) (n := 541) (Nat.le_of_ble_eq_true rfl) (Nat.le_of_ble_eq_true rfl) ?_
  refine r_putF (C := RX0) (T := TX0) (N := 11) (ty := (.array (.object "LeftGloves$Slot"))) hx hb hts in_X0 hap hown hK hI hS (i := 44) ((cadd_ne (by decide)).trans (cadd_at _ _ _)) rfl 7 (by decide) (hts _ q405) (fun _ h => h) rfl hin rfl (by decide +kernel) rfl rfl (Nat.le_of_ble_eq_true rfl) dX0_init_65 (fun H1 locs1 hI hS => ?_)
  refine lv_aload_n hx hb dX0_init_68 rfl (lv_at hl 0 rfl) ?_
  refine lv_bipush (v := 10) hx hb dX0_init_69 (by decide) ?_
  refine r_newq (N := 10) (i := 51) hx hb hown (hts _ q289) hX hK hI hS hA (by rw [cadd_ne (by omega), cadd_ne (by omega), cadd_ne (by omega), cwf_ne (by omega), cadd_ne (by omega), cadd_ne (by omega), cwf_ne (by omega), cadd_ne (by omega), cadd_ne (by omega), cwf_ne (by omega), cadd_ne (by omega), cadd_ne (by omega)]; exact N1 51 (by omega)) (by decide) (by decide) (by decide) (Nat.le_of_ble_eq_true rfl) (Nat.le_of_ble_eq_true rfl) dX0_init_71 (fun a51 H1 hI hS => ?_)
  refine W.widen (k := 50) (n := 551) (Nat.le_of_ble_eq_true rfl) (Nat.le_of_ble_eq_true rfl) ?_
  refine r_putF (C := RX0) (T := TX0) (N := 11) (ty := (.array (.object "LeftGloves$Slot"))) hx hb hts in_X0 hap hown hK hI hS (i := 44) ((cadd_ne (by decide)).trans (cadd_at _ _ _)) rfl 8 (by decide) (hts _ q406) (fun _ h => h) rfl hin rfl (by decide +kernel) rfl rfl (Nat.le_of_ble_eq_true rfl) dX0_init_74 (fun H1 locs1 hI hS => ?_)
  refine lv_aload_n hx hb dX0_init_77 rfl (lv_at hl 0 rfl) ?_
  refine lv_iconst (v := 4) hx hb dX0_init_78 (by decide) ?_
  refine r_newq (N := 4) (i := 52) hx hb hown (hts _ q289) hX hK hI hS hA (by rw [cadd_ne (by omega), cadd_ne (by omega), cadd_ne (by omega), cadd_ne (by omega), cadd_ne (by omega), cwf_ne (by omega), cadd_ne (by omega), cadd_ne (by omega), cwf_ne (by omega), cadd_ne (by omega), cadd_ne (by omega), cwf_ne (by omega), cadd_ne (by omega), cadd_ne (by omega)]; exact N1 52 (by omega)) (by decide) (by decide) (by decide) (Nat.le_of_ble_eq_true rfl) (Nat.le_of_ble_eq_true rfl) dX0_init_79 (fun a52 H1 hI hS => ?_)
  refine W.widen (k := 51) (n := 555) (Nat.le_of_ble_eq_true rfl) (Nat.le_of_ble_eq_true rfl) ?_
  refine r_putF (C := RX0) (T := TX0) (N := 11) (ty := (.array (.object "LeftGloves$Slot"))) hx hb hts in_X0 hap hown hK hI hS (i := 44) ((cadd_ne (by decide)).trans (cadd_at _ _ _)) rfl 9 (by decide) (hts _ q407) (fun _ h => h) rfl hin rfl (by decide +kernel) rfl rfl (Nat.le_of_ble_eq_true rfl) dX0_init_82 (fun H1 locs1 hI hS => ?_)
  refine lv_aload_n hx hb dX0_init_85 rfl (lv_at hl 0 rfl) ?_
  refine lv_bipush (v := 7) hx hb dX0_init_86 (by decide) ?_
  refine r_newa (atype := .int) (N := 7) (i := 49) hx hb (hts _ q257) rfl (hK.1.2 0 _ rfl).2 hI hS hA rfl (by rw [cadd_ne (by omega), cadd_ne (by omega), cadd_ne (by omega), cadd_ne (by omega), cadd_ne (by omega), cadd_ne (by omega), cadd_ne (by omega), cwf_ne (by omega), cadd_ne (by omega), cadd_ne (by omega), cwf_ne (by omega), cadd_ne (by omega), cadd_ne (by omega), cwf_ne (by omega), cadd_ne (by omega), cadd_ne (by omega)]; exact N1 49 (by omega)) (by decide) (by decide) (by decide) (Nat.le_of_ble_eq_true rfl) (Nat.le_of_ble_eq_true rfl) dX0_init_88 (fun a49 H1 _ hI hS => ?_)
  refine W.widen (k := 52) (n := 562) (Nat.le_of_ble_eq_true rfl) (Nat.le_of_ble_eq_true rfl) ?_
  refine r_putF (C := RX0) (T := TX0) (N := 11) (ty := (.array .int)) hx hb hts in_X0 hap hown hK hI hS (i := 44) ((cadd_ne (by decide)).trans (cadd_at _ _ _)) rfl 10 (by decide) (hts _ q408) (fun _ h => h) rfl hin rfl (by decide +kernel) rfl rfl (Nat.le_of_ble_eq_true rfl) dX0_init_90 (fun H1 locs1 hI hS => ?_)
  refine lv_iconst (v := 0) hx hb dX0_init_93 (by decide) ?_
  refine lv_istore_n (lv' := [(1, .int 0), (0, .ref h0)]) hx hb dX0_init_94 rfl hl (by decide) rfl (fun ls hl => ?_)
  obtain ⟨c2, ec⟩ : ∃ c, hw D c A H1 ∧ M1 D c h0 f0 f1 f2 f3 a45 a46 a47 a48 a49 a50 a51 a52 := by
    refine ⟨_, hI, ?_, ?_, ?_, ?_, ?_, ?_, ?_, ?_, ?_, ?_, ?_, ?_, ?_, ?_⟩
    · intro k hk; rw [cadd_ne (by omega), cadd_ne (by omega), cadd_ne (by omega), cadd_ne (by omega), cadd_ne (by omega), cadd_ne (by omega), cadd_ne (by omega), cadd_ne (by omega), cadd_ne (by omega), cwf_ne (by omega), cadd_ne (by omega), cadd_ne (by omega), cwf_ne (by omega), cadd_ne (by omega), cadd_ne (by omega)]; exact cwf_at hk
    · intro k hk; rw [cadd_ne (by omega), cadd_ne (by omega), cadd_ne (by omega), cadd_ne (by omega), cadd_ne (by omega), cadd_ne (by omega), cadd_ne (by omega), cadd_ne (by omega), cadd_ne (by omega), cwf_ne (by omega), cadd_ne (by omega), cadd_ne (by omega)]; exact cwf_at hk
    · intro k hk; rw [cadd_ne (by omega), cadd_ne (by omega), cadd_ne (by omega), cadd_ne (by omega), cadd_ne (by omega), cadd_ne (by omega), cadd_ne (by omega), cadd_ne (by omega), cadd_ne (by omega)]; exact cwf_at hk
    · intro k hk; rw [cadd_ne (by omega), cadd_ne (by omega), cadd_ne (by omega), cadd_ne (by omega), cadd_ne (by omega), cadd_ne (by omega), cadd_ne (by omega), cadd_ne (by omega), cadd_ne (by omega), cwf_ne (by omega), cadd_ne (by omega), cadd_ne (by omega), cwf_ne (by omega), cadd_ne (by omega), cadd_ne (by omega), cwf_ne (by omega), cadd_ne (by omega), cadd_ne (by omega)]; exact r3 k hk
    · rw [cadd_at, hf0, hf1, hf2]; rfl
    · rw [cadd_ne (by omega), cadd_ne (by omega), cadd_ne (by omega), cadd_ne (by omega), cadd_ne (by omega), cadd_ne (by omega), cadd_ne (by omega), cadd_ne (by omega), cadd_ne (by omega), cwf_ne (by omega), cadd_ne (by omega), cadd_ne (by omega), cwf_ne (by omega), cadd_ne (by omega), cadd_ne (by omega), cwf_ne (by omega), cadd_ne (by omega), cadd_ne (by omega)]; exact r45
    · rw [cadd_ne (by omega), cadd_ne (by omega), cadd_ne (by omega), cadd_ne (by omega), cadd_ne (by omega), cadd_ne (by omega), cadd_ne (by omega), cadd_ne (by omega), cadd_ne (by omega), cwf_ne (by omega), cadd_ne (by omega), cadd_ne (by omega), cwf_ne (by omega), cadd_ne (by omega), cadd_ne (by omega), cwf_ne (by omega), cadd_ne (by omega), cadd_ne (by omega)]; exact r46
    · rw [cadd_ne (by omega), cadd_ne (by omega), cadd_ne (by omega), cadd_ne (by omega), cadd_ne (by omega), cadd_ne (by omega), cadd_ne (by omega), cadd_ne (by omega), cadd_ne (by omega), cwf_ne (by omega), cadd_ne (by omega), cadd_ne (by omega), cwf_ne (by omega), cadd_ne (by omega), cadd_ne (by omega), cwf_ne (by omega), cadd_ne (by omega), cadd_ne (by omega)]; exact r47
    · rw [cadd_ne (by omega), cadd_ne (by omega), cadd_ne (by omega), cadd_ne (by omega), cadd_ne (by omega), cadd_ne (by omega), cadd_ne (by omega), cadd_ne (by omega), cadd_ne (by omega), cwf_ne (by omega), cadd_ne (by omega), cadd_ne (by omega), cwf_ne (by omega), cadd_ne (by omega), cadd_ne (by omega), cwf_ne (by omega), cadd_ne (by omega), cadd_ne (by omega)]; exact r48
    · rw [cadd_ne (by omega)]; exact cadd_at _ _ _
    · rw [cadd_ne (by omega), cadd_ne (by omega), cadd_ne (by omega), cadd_ne (by omega), cadd_ne (by omega), cadd_ne (by omega), cadd_ne (by omega)]; exact cadd_at _ _ _
    · rw [cadd_ne (by omega), cadd_ne (by omega), cadd_ne (by omega), cadd_ne (by omega), cadd_ne (by omega)]; exact cadd_at _ _ _
    · rw [cadd_ne (by omega), cadd_ne (by omega), cadd_ne (by omega)]; exact cadd_at _ _ _
    · intro j hj; rw [cadd_ne (by omega), cadd_ne (by omega), cadd_ne (by omega), cadd_ne (by omega), cadd_ne (by omega), cadd_ne (by omega), cadd_ne (by omega), cadd_ne (by omega), cadd_ne (by omega), cwf_ne (by omega), cadd_ne (by omega), cadd_ne (by omega), cwf_ne (by omega), cadd_ne (by omega), cadd_ne (by omega), cwf_ne (by omega), cadd_ne (by omega), cadd_ne (by omega)]; exact N1 j (by omega)
  obtain ⟨hI, hM⟩ := ec
  refine lp95 57 0 (by decide) (by decide) c2 f0 f1 f2 f3 a45 a46 a47 a48 a49 a50 a51 a52 hM (fun _ => 0) (fun _ => 0) _ _ ?_ hS ls (lv_sub hl [1, 0] rfl)
  rw [mG_0 hM.2.2.2.2.2.2.2.2.2.2.1]
  exact hI
