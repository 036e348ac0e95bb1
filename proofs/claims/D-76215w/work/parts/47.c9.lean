/-! spots and sheets: cells -/
def xsp (x : cst) (k : Nat) (v : Option Nat) : cst := (x.1, x.2.1, fun j => if j = k then v else x.2.2.1 j, x.2.2.2)
def xsh (x : cst) (k : Nat) (v : Option (Nat × Nat × Nat × (Nat → Int32))) : cst := (x.1, x.2.1, x.2.2.1, fun j => if j = k then v else x.2.2.2 j)
theorem xsh_ne {x : cst} {k j : Nat} {v : Option (Nat × Nat × Nat × (Nat → Int32))} (h : j ≠ k) : (xsh x k v).2.2.2 j = x.2.2.2 j := if_neg h
theorem xsh_at (x : cst) (k : Nat) (v : Option (Nat × Nat × Nat × (Nat → Int32))) : (xsh x k v).2.2.2 k = v := if_pos rfl
theorem jk_sp (x : cst) (k : Nat) (v : Option Nat) : jk x (xsp x k v) := ⟨rfl, rfl, rfl, rfl, rfl, rfl⟩
theorem jk_ref (x : cst) (v : Int32) : jk x (xr x 4 0 v) := by
  refine ⟨rfl, rfl, ?_, ?_, ?_, rfl⟩
  · show u2 x.2.1 4 0 v 0 = _
    rw [u2_ne (by decide)]
  · show u2 x.2.1 4 0 v 2 = _
    rw [u2_ne (by decide)]
  · show u2 x.2.1 4 0 v 3 = _
    rw [u2_ne (by decide)]
section CS2
variable {D : va_G} {L : Nat → Nat} {x : cst}
theorem cs_spot {k : Nat} (hk : k < 10) {v : Option Nat} (q : Nat) : cfC D L (xsp x k v) q = if q = 53 + k then some (L (53 + k), .inr (5, [va_rf v])) else cfC D L x q := by
  by_cases hq : q = 53 + k
  · rw [if_pos hq, hq, cf_spot hk]
    simp [xsp]
  · rw [if_neg hq]
    unfold cfC
    by_cases h1 : q < 44
    · rw [if_pos h1, if_pos h1]; rfl
    · rw [if_neg h1, if_neg h1]
      by_cases h2 : q < 179
      · rw [if_pos h2, if_pos h2]
        refine congrArg some (congrArg (Prod.mk (L q)) ?_)
        unfold cw_o
        have e : ∀ j, ¬ j = 53 + k → 53 ≤ j → (xsp x k v).2.2.1 (j - 53) = x.2.2.1 (j - 53) := fun j hj h3 => if_neg (by omega)
        by_cases h44 : q = 44
        · simp only [h44]; rfl
        by_cases h45 : q = 45
        · simp only [h45]; rfl
        by_cases h46 : q = 46
        · simp only [h46]; rfl
        by_cases h47 : q = 47
        · simp only [h47]; rfl
        by_cases h48 : q = 48
        · simp only [h48]; rfl
        by_cases h49 : q = 49
        · simp only [h49]; rfl
        by_cases h50 : q = 50
        · simp only [h50]; rfl
        by_cases h51 : q = 51
        · simp only [h51]; rfl
        by_cases h52 : q = 52
        · simp only [h52]; rfl
        rw [e q hq (by omega)]
        rfl
      · rw [if_neg h2, if_neg h2]; rfl
theorem cs_sh {k : Nat} (hk : k < 4) {a t n : Nat} {g g' : Nat → Int32} (hq0 : x.2.2.2 k = some (a, t, n, g)) (q : Nat) : cfC D L (xsh x k (some (a, t, n, g'))) q = if q = 179 + k then some (a, .inl (D.1 (shc t), n, .inl g')) else cfC D L x q := by
  by_cases hq : q = 179 + k
  · rw [if_pos hq, hq, cf_sh (q := (a, t, n, g')) hk (by simp [xsh])]
  · rw [if_neg hq]
    unfold cfC
    by_cases h1 : q < 44
    · rw [if_pos h1, if_pos h1]; rfl
    · rw [if_neg h1, if_neg h1]
      by_cases h2 : q < 179
      · rw [if_pos h2, if_pos h2]
        refine congrArg some (congrArg (Prod.mk (L q)) ?_)
        unfold cw_o
        have e : ∀ j, ((xsh x k (some (a, t, n, g'))).2.2.2 j).map (·.1) = (x.2.2.2 j).map (·.1) := by
          intro j
          show (if j = k then some (a, t, n, g') else x.2.2.2 j).map _ = _
          by_cases hj : j = k
          · rw [if_pos hj, hj, hq0]; rfl
          · rw [if_neg hj]
        rw [e]
        rfl
      · rw [if_neg h2, if_neg h2]
        by_cases h3 : q < 183
        · rw [if_pos h3, if_pos h3]
          rw [xsh_ne (show q - 179 ≠ k by omega)]
        · rw [if_neg h3, if_neg h3]
theorem cf_sh4 {k : Nat} (hk : k < 4) {a t n : Nat} {g : Nat → Int32} (hq : x.2.2.2 k = some (a, t, n, g)) : cfC D L x (179 + k) = some (a, .inl (D.1 (shc t), n, .inl g)) := cf_sh hk hq
end CS2
section RA
variable {p : Program} {l : Launch} {e : Env} {R : Room} {s : State} {m : MethodId} {args : Array Value} {below : List Frame} {meth : Method} {c : Code} {H H0 : Heap} {locs : List Loc} {cells slots : Nat} {Q : State → Prop}
variable {cc : ByteArray} {pc : Nat} {ls : Array Slot} {rest : List Value} {A : Nat → Prop} {D : va_G} {L : Nat → Nat} {x : cst} {cf : cmap} {a i : Nat} {κ k : Nat}
theorem r_castA (hexec : p.tables.exec = Jvm.exec) (hb : c.code = cc) {own nm : String} {index : Nat} (hown : s.vm.findClass own = some m.cls) (hlink : (Cond.classLink own index nm).before args s = true) (hI : hw D cf A H) {cA : ClassId} {v : vp_A} (he : cf i = some (a, .inl (cA, v))) (hnm : s.vm.findClass nm = some cA) (hdg : decode cc pc = .ok (.checkcast index, 3))
    (kk : W p l e R s m args below meth c H locs cells slots Q (F0 m (pc + 3) ls (.ref a :: rest))) : W p l e R s m args below meth c H locs cells slots Q (F0 m pc ls (.ref a :: rest)) :=
  va_castA hexec hb hown hlink (hI.one he) 0 rfl hnm hdg kk
theorem arr_recv {nm : String} (hI : hw D cf A H) {cA : ClassId} {v : vp_A} (he : cf i = some (a, .inl (cA, v))) (hnm : s.vm.findClass nm = some cA) : ∃ cell : Cell, H[a]? = some cell ∧ cell.vm.isStatics = false ∧ s.vm.findClass nm = some cell.cls := by
  refine ⟨vp_cell cA v, (hI.1 i _ _ he).1, ?_, ?_⟩
  · obtain ⟨n, f | f | f | f | f⟩ := v <;> rfl
  · rw [hnm]
    obtain ⟨n, f | f | f | f | f⟩ := v <;> rfl
theorem r_instA (hexec : p.tables.exec = Jvm.exec) (hb : c.code = cc) {own nm : String} {index : Nat} (hown : s.vm.findClass own = some m.cls) (hlink : (Cond.classLink own index nm).before args s = true) (hI : hw D cf A H) {cA : ClassId} {v : vp_A} (he : cf i = some (a, .inl (cA, v))) (hnm : s.vm.findClass nm = some cA) (hdg : decode cc pc = .ok (.instanceof index, 3))
    (kk : W p l e R s m args below meth c H locs cells slots Q (F0 m (pc + 3) ls (.int 1 :: rest))) : W p l e R s m args below meth c H locs cells slots Q (F0 m pc ls (.ref a :: rest)) := by
  obtain ⟨cell, h1, h2, h3⟩ := arr_recv hI he hnm
  have e1 : cA = cell.cls := Option.some.inj (hnm.symm.trans h3)
  intro T hT X
  obtain ⟨vm', X', st⟩ := X.instanceofYes hexec hown hlink (by rw [hT]; exact h1) h2 hnm (by rw [← e1]; exact va_asg _ _) (g := F0 m pc ls (.ref a :: rest)) rfl rfl (by rw [hb]; exact hdg)
  obtain ⟨t, a1, b1⟩ := kk (T.setVm vm') hT X'
  exact ⟨t, st t a1, b1⟩
theorem r_instG (hexec : p.tables.exec = Jvm.exec) (hb : c.code = cc) {own : String} {index : Nat} (hown : s.vm.findClass own = some m.cls) (hlink : (Cond.classLink own index "LeftGloves$Glove").before args s = true) (hK : KK D s) (hI : hw D (cfC D L x) A H) (hκ : κ < 7) (hk : k < 8) (hdg : decode cc pc = .ok (.instanceof index, 3))
    (kk : W p l e R s m args below meth c H locs cells slots Q (F0 m (pc + 3) ls (.int 1 :: rest))) : W p l e R s m args below meth c H locs cells slots Q (F0 m pc ls (.ref (L (123 + (8 * κ + k))) :: rest)) := by
  have hcast : ∀ C, (C, "LeftGloves$Glove") ∈ nwC → va_Nw (.castable C "LeftGloves$Glove") s := fun C h => hK.2.2.2.1 _ h
  match κ, hκ with
  | 0, _ => exact va_instS hexec hb hown hlink (hK.1.1 6 _ rfl).2 (hw.recv hI hK (cf_gk (κ := 0) (by decide) hk) (q := (RX6, TX6, 2)) rfl) hdg kk
  | 1, _ => exact va_instY hexec hb hown hlink (hcast _ (by decide)) (hw.recv hI hK (cf_gk (κ := 1) (by decide) hk) (q := (RX7, TX7, 3)) rfl) hdg kk
  | 2, _ => exact va_instY hexec hb hown hlink (hcast _ (by decide)) (hw.recv hI hK (cf_gk (κ := 2) (by decide) hk) (q := (RX8, TX8, 3)) rfl) hdg kk
  | 3, _ => exact va_instY hexec hb hown hlink (hcast _ (by decide)) (hw.recv hI hK (cf_gk (κ := 3) (by decide) hk) (q := (RX9, TX9, 4)) rfl) hdg kk
  | 4, _ => exact va_instY hexec hb hown hlink (hcast _ (by decide)) (hw.recv hI hK (cf_gk (κ := 4) (by decide) hk) (q := (RX10, TX10, 5)) rfl) hdg kk
  | 5, _ => exact va_instY hexec hb hown hlink (hcast _ (by decide)) (hw.recv hI hK (cf_gk (κ := 5) (by decide) hk) (q := (RX11, TX11, 3)) rfl) hdg kk
  | 6, _ => exact va_instY hexec hb hown hlink (hcast _ (by decide)) (hw.recv hI hK (cf_gk (κ := 6) (by decide) hk) (q := (RX12, TX12, 4)) rfl) hdg kk
theorem r_castK0 (hexec : p.tables.exec = Jvm.exec) (hb : c.code = cc) {own : String} {index : Nat} (hown : s.vm.findClass own = some m.cls) (hlink : (Cond.classLink own index "LeftGloves$Glove").before args s = true) (hK : KK D s) (hI : hw D (cfC D L x) A H) (hκ : κ < 7) (hk : k < 8) (hun : ¬ unI κ 0 = 0) (hdg : decode cc pc = .ok (.checkcast index, 3))
    (kk : W p l e R s m args below meth c H locs cells slots Q (F0 m (pc + 3) ls (.ref (L (123 + (8 * κ + k))) :: rest))) : W p l e R s m args below meth c H locs cells slots Q (F0 m pc ls (.ref (L (123 + (8 * κ + k))) :: rest)) := by
  have hcast : ∀ C, (C, "LeftGloves$Glove") ∈ nwC → va_Nw (.castable C "LeftGloves$Glove") s := fun C h => hK.2.2.2.1 _ h
  match κ, hκ, hun with
  | 0, _, _ => exact va_castS hexec hb hown hlink (hK.1.1 6 _ rfl).2 (hw.recv hI hK (cf_gk (κ := 0) (by decide) hk) (q := (RX6, TX6, 2)) rfl) hdg kk
  | 1, _, _ => exact va_castY hexec hb hown hlink (hcast _ (by decide)) (hw.recv hI hK (cf_gk (κ := 1) (by decide) hk) (q := (RX7, TX7, 3)) rfl) hdg kk
  | 2, _, _ => exact va_castY hexec hb hown hlink (hcast _ (by decide)) (hw.recv hI hK (cf_gk (κ := 2) (by decide) hk) (q := (RX8, TX8, 3)) rfl) hdg kk
  | 3, _, _ => exact va_castY hexec hb hown hlink (hcast _ (by decide)) (hw.recv hI hK (cf_gk (κ := 3) (by decide) hk) (q := (RX9, TX9, 4)) rfl) hdg kk
  | 4, _, _ => exact va_castY hexec hb hown hlink (hcast _ (by decide)) (hw.recv hI hK (cf_gk (κ := 4) (by decide) hk) (q := (RX10, TX10, 5)) rfl) hdg kk
  | 5, _, _ => exact va_castY hexec hb hown hlink (hcast _ (by decide)) (hw.recv hI hK (cf_gk (κ := 5) (by decide) hk) (q := (RX11, TX11, 3)) rfl) hdg kk
  | 6, _, _ => exact va_castY hexec hb hown hlink (hcast _ (by decide)) (hw.recv hI hK (cf_gk (κ := 6) (by decide) hk) (q := (RX12, TX12, 4)) rfl) hdg kk
theorem r_castK1 (hexec : p.tables.exec = Jvm.exec) (hb : c.code = cc) {own : String} {index : Nat} (hown : s.vm.findClass own = some m.cls) (hlink : (Cond.classLink own index "LeftGloves$Kidskin").before args s = true) (hK : KK D s) (hI : hw D (cfC D L x) A H) (hκ : κ < 7) (hk : k < 8) (hun : ¬ unI κ 1 = 0) (hdg : decode cc pc = .ok (.checkcast index, 3))
    (kk : W p l e R s m args below meth c H locs cells slots Q (F0 m (pc + 3) ls (.ref (L (123 + (8 * κ + k))) :: rest))) : W p l e R s m args below meth c H locs cells slots Q (F0 m pc ls (.ref (L (123 + (8 * κ + k))) :: rest)) := by
  have hcast : ∀ C, (C, "LeftGloves$Kidskin") ∈ nwC → va_Nw (.castable C "LeftGloves$Kidskin") s := fun C h => hK.2.2.2.1 _ h
  match κ, hκ, hun with
  | 0, _, hun => exact absurd (by decide) hun
  | 1, _, _ => exact va_castS hexec hb hown hlink (hK.1.1 7 _ rfl).2 (hw.recv hI hK (cf_gk (κ := 1) (by decide) hk) (q := (RX7, TX7, 3)) rfl) hdg kk
  | 2, _, hun => exact absurd (by decide) hun
  | 3, _, hun => exact absurd (by decide) hun
  | 4, _, hun => exact absurd (by decide) hun
  | 5, _, hun => exact absurd (by decide) hun
  | 6, _, _ => exact va_castY hexec hb hown hlink (hcast _ (by decide)) (hw.recv hI hK (cf_gk (κ := 6) (by decide) hk) (q := (RX12, TX12, 4)) rfl) hdg kk
theorem r_castK2 (hexec : p.tables.exec = Jvm.exec) (hb : c.code = cc) {own : String} {index : Nat} (hown : s.vm.findClass own = some m.cls) (hlink : (Cond.classLink own index "LeftGloves$Mitten").before args s = true) (hK : KK D s) (hI : hw D (cfC D L x) A H) (hκ : κ < 7) (hk : k < 8) (hun : ¬ unI κ 2 = 0) (hdg : decode cc pc = .ok (.checkcast index, 3))
    (kk : W p l e R s m args below meth c H locs cells slots Q (F0 m (pc + 3) ls (.ref (L (123 + (8 * κ + k))) :: rest))) : W p l e R s m args below meth c H locs cells slots Q (F0 m pc ls (.ref (L (123 + (8 * κ + k))) :: rest)) := by
  have hcast : ∀ C, (C, "LeftGloves$Mitten") ∈ nwC → va_Nw (.castable C "LeftGloves$Mitten") s := fun C h => hK.2.2.2.1 _ h
  match κ, hκ, hun with
  | 0, _, hun => exact absurd (by decide) hun
  | 1, _, hun => exact absurd (by decide) hun
  | 2, _, _ => exact va_castS hexec hb hown hlink (hK.1.1 8 _ rfl).2 (hw.recv hI hK (cf_gk (κ := 2) (by decide) hk) (q := (RX8, TX8, 3)) rfl) hdg kk
  | 3, _, _ => exact va_castY hexec hb hown hlink (hcast _ (by decide)) (hw.recv hI hK (cf_gk (κ := 3) (by decide) hk) (q := (RX9, TX9, 4)) rfl) hdg kk
  | 4, _, _ => exact va_castY hexec hb hown hlink (hcast _ (by decide)) (hw.recv hI hK (cf_gk (κ := 4) (by decide) hk) (q := (RX10, TX10, 5)) rfl) hdg kk
  | 5, _, hun => exact absurd (by decide) hun
  | 6, _, hun => exact absurd (by decide) hun
theorem r_castK3 (hexec : p.tables.exec = Jvm.exec) (hb : c.code = cc) {own : String} {index : Nat} (hown : s.vm.findClass own = some m.cls) (hlink : (Cond.classLink own index "LeftGloves$Lady").before args s = true) (hK : KK D s) (hI : hw D (cfC D L x) A H) (hκ : κ < 7) (hk : k < 8) (hun : ¬ unI κ 3 = 0) (hdg : decode cc pc = .ok (.checkcast index, 3))
    (kk : W p l e R s m args below meth c H locs cells slots Q (F0 m (pc + 3) ls (.ref (L (123 + (8 * κ + k))) :: rest))) : W p l e R s m args below meth c H locs cells slots Q (F0 m pc ls (.ref (L (123 + (8 * κ + k))) :: rest)) := by
  have hcast : ∀ C, (C, "LeftGloves$Lady") ∈ nwC → va_Nw (.castable C "LeftGloves$Lady") s := fun C h => hK.2.2.2.1 _ h
  match κ, hκ, hun with
  | 0, _, hun => exact absurd (by decide) hun
  | 1, _, hun => exact absurd (by decide) hun
  | 2, _, hun => exact absurd (by decide) hun
  | 3, _, _ => exact va_castS hexec hb hown hlink (hK.1.1 9 _ rfl).2 (hw.recv hI hK (cf_gk (κ := 3) (by decide) hk) (q := (RX9, TX9, 4)) rfl) hdg kk
  | 4, _, _ => exact va_castY hexec hb hown hlink (hcast _ (by decide)) (hw.recv hI hK (cf_gk (κ := 4) (by decide) hk) (q := (RX10, TX10, 5)) rfl) hdg kk
  | 5, _, hun => exact absurd (by decide) hun
  | 6, _, hun => exact absurd (by decide) hun
theorem r_castK4 (hexec : p.tables.exec = Jvm.exec) (hb : c.code = cc) {own : String} {index : Nat} (hown : s.vm.findClass own = some m.cls) (hlink : (Cond.classLink own index "LeftGloves$Burnt").before args s = true) (hK : KK D s) (hI : hw D (cfC D L x) A H) (hκ : κ < 7) (hk : k < 8) (hun : ¬ unI κ 4 = 0) (hdg : decode cc pc = .ok (.checkcast index, 3))
    (kk : W p l e R s m args below meth c H locs cells slots Q (F0 m (pc + 3) ls (.ref (L (123 + (8 * κ + k))) :: rest))) : W p l e R s m args below meth c H locs cells slots Q (F0 m pc ls (.ref (L (123 + (8 * κ + k))) :: rest)) := by
  have hcast : ∀ C, (C, "LeftGloves$Burnt") ∈ nwC → va_Nw (.castable C "LeftGloves$Burnt") s := fun C h => hK.2.2.2.1 _ h
  match κ, hκ, hun with
  | 0, _, hun => exact absurd (by decide) hun
  | 1, _, hun => exact absurd (by decide) hun
  | 2, _, hun => exact absurd (by decide) hun
  | 3, _, hun => exact absurd (by decide) hun
  | 4, _, _ => exact va_castS hexec hb hown hlink (hK.1.1 10 _ rfl).2 (hw.recv hI hK (cf_gk (κ := 4) (by decide) hk) (q := (RX10, TX10, 5)) rfl) hdg kk
  | 5, _, hun => exact absurd (by decide) hun
  | 6, _, hun => exact absurd (by decide) hun
theorem r_castK5 (hexec : p.tables.exec = Jvm.exec) (hb : c.code = cc) {own : String} {index : Nat} (hown : s.vm.findClass own = some m.cls) (hlink : (Cond.classLink own index "LeftGloves$Stiff").before args s = true) (hK : KK D s) (hI : hw D (cfC D L x) A H) (hκ : κ < 7) (hk : k < 8) (hun : ¬ unI κ 5 = 0) (hdg : decode cc pc = .ok (.checkcast index, 3))
    (kk : W p l e R s m args below meth c H locs cells slots Q (F0 m (pc + 3) ls (.ref (L (123 + (8 * κ + k))) :: rest))) : W p l e R s m args below meth c H locs cells slots Q (F0 m pc ls (.ref (L (123 + (8 * κ + k))) :: rest)) := by
  have hcast : ∀ C, (C, "LeftGloves$Stiff") ∈ nwC → va_Nw (.castable C "LeftGloves$Stiff") s := fun C h => hK.2.2.2.1 _ h
  match κ, hκ, hun with
  | 0, _, hun => exact absurd (by decide) hun
  | 1, _, hun => exact absurd (by decide) hun
  | 2, _, hun => exact absurd (by decide) hun
  | 3, _, hun => exact absurd (by decide) hun
  | 4, _, hun => exact absurd (by decide) hun
  | 5, _, _ => exact va_castS hexec hb hown hlink (hK.1.1 11 _ rfl).2 (hw.recv hI hK (cf_gk (κ := 5) (by decide) hk) (q := (RX11, TX11, 3)) rfl) hdg kk
  | 6, _, hun => exact absurd (by decide) hun
theorem r_castK6 (hexec : p.tables.exec = Jvm.exec) (hb : c.code = cc) {own : String} {index : Nat} (hown : s.vm.findClass own = some m.cls) (hlink : (Cond.classLink own index "LeftGloves$Double").before args s = true) (hK : KK D s) (hI : hw D (cfC D L x) A H) (hκ : κ < 7) (hk : k < 8) (hun : ¬ unI κ 6 = 0) (hdg : decode cc pc = .ok (.checkcast index, 3))
    (kk : W p l e R s m args below meth c H locs cells slots Q (F0 m (pc + 3) ls (.ref (L (123 + (8 * κ + k))) :: rest))) : W p l e R s m args below meth c H locs cells slots Q (F0 m pc ls (.ref (L (123 + (8 * κ + k))) :: rest)) := by
  have hcast : ∀ C, (C, "LeftGloves$Double") ∈ nwC → va_Nw (.castable C "LeftGloves$Double") s := fun C h => hK.2.2.2.1 _ h
  match κ, hκ, hun with
  | 0, _, hun => exact absurd (by decide) hun
  | 1, _, hun => exact absurd (by decide) hun
  | 2, _, hun => exact absurd (by decide) hun
  | 3, _, hun => exact absurd (by decide) hun
  | 4, _, hun => exact absurd (by decide) hun
  | 5, _, hun => exact absurd (by decide) hun
  | 6, _, _ => exact va_castS hexec hb hown hlink (hK.1.1 12 _ rfl).2 (hw.recv hI hK (cf_gk (κ := 6) (by decide) hk) (q := (RX12, TX12, 4)) rfl) hdg kk
theorem r_numG (hexec : p.tables.exec = Jvm.exec) (hb : c.code = cc) {own : String} {index : Nat} (hts : ∀ w ∈ lw_all, w.before args s = true) (hown : s.vm.findClass own = some m.cls) (hK : KK D s) (hI : hw D (cfC D L x) A H) (hκ : κ < 7) (hk : k < 8) (hlink : (Cond.fieldLink own index "LeftGloves$Glove" "number" "I").before args s = true) (hdg : decode cc pc = .ok (.getfield index, 3))
    (kk : W p l e R s m args below meth c H locs cells slots Q (F0 m (pc + 3) ls (.int (nI k) :: rest))) : W p l e R s m args below meth c H locs cells slots Q (F0 m pc ls (.ref (L (123 + (8 * κ + k))) :: rest)) := by
  match κ, hκ with
  | 0, _ => exact r_get (C := RX6) (T := TX6) (N := 2) hexec hb hts in_X6 hown hK hI (cf_gk (κ := 0) (by decide) hk) rfl 0 (by decide) hlink (fun _ h => h) rfl hdg kk
  | 1, _ => exact r_get (C := RX7) (T := TX7) (N := 3) hexec hb hts in_X7 hown hK hI (cf_gk (κ := 1) (by decide) hk) rfl 0 (by decide) hlink (fun _ h => h) rfl hdg kk
  | 2, _ => exact r_get (C := RX8) (T := TX8) (N := 3) hexec hb hts in_X8 hown hK hI (cf_gk (κ := 2) (by decide) hk) rfl 0 (by decide) hlink (fun _ h => h) rfl hdg kk
  | 3, _ => exact r_get (C := RX9) (T := TX9) (N := 4) hexec hb hts in_X9 hown hK hI (cf_gk (κ := 3) (by decide) hk) rfl 0 (by decide) hlink (fun _ h => h) rfl hdg kk
  | 4, _ => exact r_get (C := RX10) (T := TX10) (N := 5) hexec hb hts in_X10 hown hK hI (cf_gk (κ := 4) (by decide) hk) rfl 0 (by decide) hlink (fun _ h => h) rfl hdg kk
  | 5, _ => exact r_get (C := RX11) (T := TX11) (N := 3) hexec hb hts in_X11 hown hK hI (cf_gk (κ := 5) (by decide) hk) rfl 0 (by decide) hlink (fun _ h => h) rfl hdg kk
  | 6, _ => exact r_get (C := RX12) (T := TX12) (N := 4) hexec hb hts in_X12 hown hK hI (cf_gk (κ := 6) (by decide) hk) rfl 0 (by decide) hlink (fun _ h => h) rfl hdg kk

end RA
theorem shn_fit {t : Nat} {v : Int32} (ht : t < 3) (h : shn t v = v) : fits (match t with | 0 => .byte | 1 => .short | _ => .int) (.int v) = true := by
  match t, ht with
  | 0, _ => show fits .byte (.int v) = true; rw [← h]; exact pk_fb _
  | 1, _ => show fits .short (.int v) = true; rw [← h]; exact pk_fs _
  | 2, _ => rfl
theorem in6_0 {kd : Int32} (h : ¬ inI kd 0 6 = 0) (h1 : ¬ kd = 1) (h2 : ¬ kd = 2) (h3 : ¬ kd = 3) (h4 : ¬ kd = 4) (h5 : ¬ kd = 5) (h6 : ¬ kd = 6) : kd = 0 := by
  obtain ⟨q, hq, rfl⟩ := inI_to (b := 6) rfl (by decide) h
  match q, hq, h1, h2, h3, h4, h5, h6 with
  | 0, _, _, _, _, _, _, _ => rfl
  | 1, _, h, _, _, _, _, _ => exact absurd rfl h
  | 2, _, _, h, _, _, _, _ => exact absurd rfl h
  | 3, _, _, _, h, _, _, _ => exact absurd rfl h
  | 4, _, _, _, _, h, _, _ => exact absurd rfl h
  | 5, _, _, _, _, _, h, _ => exact absurd rfl h
  | 6, _, _, _, _, _, _, h => exact absurd rfl h
theorem as_0C {f : wd} {s kd : Int32} {j : Nat} (h1 : ¬ inI s 0 9 = 0) (h2 : ¬ inI kd 0 6 = 0) (es : s.toNatClampNeg = j) (h : f 9 j = -1) : a_as f s kd = .inl 5 := by
  rw [a_as, if_neg h1, if_neg h2, es, if_pos h]
theorem as_vC {f : wd} {s kd : Int32} {j q : Nat} (h1 : ¬ inI s 0 9 = 0) (h2 : ¬ inI kd 0 6 = 0) (es : s.toNatClampNeg = j) (e : f 9 j = nI q) (hq : q < 8) : a_as f s kd = if unI (kN f q) kd = 0 then .inl 2 else .inr (nI q, f) := by
  rw [a_as, if_neg h1, if_neg h2, es, e, if_neg (nI_m1 (by omega)), nI_clamp (by omega)]
theorem k_X0_thingAt_n {l : Launch} {D : va_G} {L : Nat → Nat} {A : Nat → Prop} (x : cst) (j : Nat) (hj : j < 10) (h9 : x.1 0 9 j = -1) : Met l yX0_thingAt (ws_ yX0_thingAt cX0_thingAt 3 (some (.object "java/lang/Object"))) ({ frames := 0, cells := 0, slots := 0, locals := 0 } : Room) (va_Pc [.ref (L 44), .int (nI j)] (pI D (cfC D L x) A)) (nQ D (cfC D L (xsp x j none)) A (some .null)) 0 0 A := by
  refine met_I (by decide) rfl (Nat.le_of_ble_eq_true rfl) ?_
  intro p e s m below meth c ls hx hb hr hml hown hts hlocks hl hI hK
  have F : CallFix p m c cX0_thingAt 3 s _ lw_all RX0 := ⟨hx, hb, hml, hown, hts⟩
  have hl : lv_has ls 3 [(0, .ref (L 44)), (1, .int (nI j))] := hl
  have hS : va_S A s.heap s.heap [] := va_S.rf
  refine lv_aload_n hx hb dX0_thingAt_0 rfl (lv_at hl 0 rfl) ?_
  refine r_get (C := RX0) (T := TX0) (N := 11) hx hb hts in_X0 hown hK hI (cf_main) rfl 3 (by decide) (hts _ q401) (fun _ h => h) rfl dX0_thingAt_1 ?_
  refine r_getN (C := RX4) (T := TX4) (N := 7) hx hb hts in_X4 hown hK hI (cf_W (w := 0) (by decide)) rfl 6 (by decide) (nf_11 hK) (fun _ h => h) rfl dX0_thingAt_4 ?_
  refine lv_iload_n hx hb dX0_thingAt_7 rfl (lv_at hl 1 rfl) ?_
  refine n_iald (k := j) hx hb hK hI (cf_holds (w := 0) (by decide)) (rfl) (by omega) (by decide) dX0_thingAt_8 ?_
  refine lv_istore_n (lv' := [(2, .int (x.1 0 9 j)), (0, .ref (L 44)), (1, .int (nI j))]) hx hb dX0_thingAt_9 rfl hl (by decide) rfl (fun ls hl => ?_)
  refine lv_aload_n hx hb dX0_thingAt_10 rfl (lv_at hl 1 rfl) ?_
  refine r_get (C := RX0) (T := TX0) (N := 11) hx hb hts in_X0 hown hK hI (cf_main) rfl 8 (by decide) (hts _ q406) (fun _ h => h) rfl dX0_thingAt_11 ?_
  refine lv_iload_n hx hb dX0_thingAt_14 rfl (lv_at hl 2 rfl) ?_
  refine n_aaldS (f := fun k => L (53 + k)) (k := j) hx hb hK hI (cf_sparr) (rfl) (by omega) (by decide) dX0_thingAt_15 ?_
  refine lv_iload_n hx hb dX0_thingAt_16 rfl (lv_at hl 0 rfl) ?_
  refine lv_iconst (v := (-1)) hx hb dX0_thingAt_17 (by decide) ?_
  refine lv_icmp_ne (tgt := 25) hx hb dX0_thingAt_18 (by decide) (fun c_18 => ?_) (fun c_18 => ?_)
  · skip
    exact absurd h9 c_18
  · skip
    refine lv_null hx hb dX0_thingAt_21 ?_
    refine lv_goto (tgt := 30) hx hb dX0_thingAt_22 (by decide) ?_
    obtain ⟨x1, ex1⟩ : ∃ z, z = xsp x j none := ⟨_, rfl⟩
    refine r_putN (C := RX5) (T := TX5) (N := 1) (cf' := cfC D L x1) hx hb hts in_X5 tyX5 tyX5_ok nmX5 hown hK hI hS (cf_spot (k := j) (by omega)) rfl 0 (by decide) (nf_16 hK) (fun _ h => h) rfl (ty := (.object "java/lang/Object")) (by decide +kernel) rfl rfl (Nat.le_of_ble_eq_true rfl) (by rw [ex1]; exact cs_spot (by omega)) dX0_thingAt_30 (fun H1 locs1 hI hS => ?_)
    refine lv_aload_n hx hb dX0_thingAt_33 rfl (lv_at hl 1 rfl) ?_
    refine r_get (C := RX0) (T := TX0) (N := 11) hx hb hts in_X0 hown hK hI (cf_main) rfl 8 (by decide) (hts _ q406) (fun _ h => h) rfl dX0_thingAt_34 ?_
    refine lv_iload_n hx hb dX0_thingAt_37 rfl (lv_at hl 2 rfl) ?_
    refine n_aaldS (f := fun k => L (53 + k)) (k := j) hx hb hK hI (cf_sparr) (rfl) (by omega) (by decide) dX0_thingAt_38 ?_
    refine r_getN (v := .null) (C := RX5) (T := TX5) (N := 1) hx hb hts in_X5 hown hK hI (cf_spot (k := j) (by omega)) rfl 0 (by decide) (nf_16 hK) (fun _ h => h) (by simp [ex1, xsp, va_rf]) dX0_thingAt_39 ?_
    exact W.aret hx hb hr (Or.inl ⟨_, rfl⟩) (Or.inl rfl) (fun t ht _ => ⟨rfl, by rw [ht]; exact hw_eq hI (congrArg (cfC D L) (ex1)), hS.F ht⟩) hS.2.2 dX0_thingAt_42
theorem k_X0_thingAt_r {l : Launch} {D : va_G} {L : Nat → Nat} {A : Nat → Prop} (x : cst) (j q κ : Nat) (hj : j < 10) (hq8 : q < 8) (hκ : κ < 7) (h9 : x.1 0 9 j = nI q) (ek : x.1 0 (2 + 0) q = nI κ) : Met l yX0_thingAt (ws_ yX0_thingAt cX0_thingAt 3 (some (.object "java/lang/Object"))) ({ frames := 1, cells := 0, slots := 0, locals := 21 } : Room) (va_Pc [.ref (L 44), .int (nI j)] (pI D (cfC D L x) A)) (nQ D (cfC D L (xsp x j (some (L (123 + (8 * κ + q)))))) A (some (.ref (L (123 + (8 * κ + q)))))) 0 0 A := by
  refine met_I (by decide) rfl (Nat.le_of_ble_eq_true rfl) ?_
  intro p e s m below meth c ls hx hb hr hml hown hts hlocks hl hI hK
  have F : CallFix p m c cX0_thingAt 3 s _ lw_all RX0 := ⟨hx, hb, hml, hown, hts⟩
  have hl : lv_has ls 3 [(0, .ref (L 44)), (1, .int (nI j))] := hl
  have hS : va_S A s.heap s.heap [] := va_S.rf
  refine lv_aload_n hx hb dX0_thingAt_0 rfl (lv_at hl 0 rfl) ?_
  refine r_get (C := RX0) (T := TX0) (N := 11) hx hb hts in_X0 hown hK hI (cf_main) rfl 3 (by decide) (hts _ q401) (fun _ h => h) rfl dX0_thingAt_1 ?_
  refine r_getN (C := RX4) (T := TX4) (N := 7) hx hb hts in_X4 hown hK hI (cf_W (w := 0) (by decide)) rfl 6 (by decide) (nf_11 hK) (fun _ h => h) rfl dX0_thingAt_4 ?_
  refine lv_iload_n hx hb dX0_thingAt_7 rfl (lv_at hl 1 rfl) ?_
  refine n_iald (k := j) hx hb hK hI (cf_holds (w := 0) (by decide)) (rfl) (by omega) (by decide) dX0_thingAt_8 ?_
  rw [h9]
  refine lv_istore_n (lv' := [(2, .int (nI q)), (0, .ref (L 44)), (1, .int (nI j))]) hx hb dX0_thingAt_9 rfl hl (by decide) rfl (fun ls hl => ?_)
  refine lv_aload_n hx hb dX0_thingAt_10 rfl (lv_at hl 1 rfl) ?_
  refine r_get (C := RX0) (T := TX0) (N := 11) hx hb hts in_X0 hown hK hI (cf_main) rfl 8 (by decide) (hts _ q406) (fun _ h => h) rfl dX0_thingAt_11 ?_
  refine lv_iload_n hx hb dX0_thingAt_14 rfl (lv_at hl 2 rfl) ?_
  refine n_aaldS (f := fun k => L (53 + k)) (k := j) hx hb hK hI (cf_sparr) (rfl) (by omega) (by decide) dX0_thingAt_15 ?_
  refine lv_iload_n hx hb dX0_thingAt_16 rfl (lv_at hl 0 rfl) ?_
  refine lv_iconst (v := (-1)) hx hb dX0_thingAt_17 (by decide) ?_
  refine lv_icmp_ne (tgt := 25) hx hb dX0_thingAt_18 (by decide) (fun c_18 => ?_) (fun c_18 => ?_)
  · skip
    refine lv_aload_n hx hb dX0_thingAt_25 rfl (lv_at hl 1 rfl) ?_
    refine lv_iload_n hx hb dX0_thingAt_26 rfl (lv_at hl 0 rfl) ?_
    refine c_r (k_V (As := [.int (nI q)]) (rest := [.ref (L (53 + j))]) F (k_X0_gloveOf x q κ hκ (by omega) ek) (cwV 1 hts (lw_V q482 q484 qs4 q91 q485) rfl rfl rfl (by decide +kernel) ⟨Nat.le_of_ble_eq_true rfl, Nat.le_of_ble_eq_true rfl⟩) hI hK (hw.recv hI hK (cf_main) rfl) rfl hl.1 rfl (Nat.le_of_ble_eq_true rfl) dX0_thingAt_27 ⟨Nat.le_of_ble_eq_true rfl, Nat.le_of_ble_eq_true rfl⟩) ?_
    obtain ⟨x1, ex1⟩ : ∃ z, z = xsp x j (some (L (123 + (8 * κ + q)))) := ⟨_, rfl⟩
    refine r_putN (C := RX5) (T := TX5) (N := 1) (cf' := cfC D L x1) hx hb hts in_X5 tyX5 tyX5_ok nmX5 hown hK hI hS (cf_spot (k := j) (by omega)) rfl 0 (by decide) (nf_16 hK) (fun _ h => h) rfl (ty := (.object "java/lang/Object")) (by decide +kernel) rfl rfl (Nat.le_of_ble_eq_true rfl) (by rw [ex1]; exact cs_spot (by omega)) dX0_thingAt_30 (fun H1 locs1 hI hS => ?_)
    refine lv_aload_n hx hb dX0_thingAt_33 rfl (lv_at hl 1 rfl) ?_
    refine r_get (C := RX0) (T := TX0) (N := 11) hx hb hts in_X0 hown hK hI (cf_main) rfl 8 (by decide) (hts _ q406) (fun _ h => h) rfl dX0_thingAt_34 ?_
    refine lv_iload_n hx hb dX0_thingAt_37 rfl (lv_at hl 2 rfl) ?_
    refine n_aaldS (f := fun k => L (53 + k)) (k := j) hx hb hK hI (cf_sparr) (rfl) (by omega) (by decide) dX0_thingAt_38 ?_
    refine r_getN (v := .ref (L (123 + (8 * κ + q)))) (C := RX5) (T := TX5) (N := 1) hx hb hts in_X5 hown hK hI (cf_spot (k := j) (by omega)) rfl 0 (by decide) (nf_16 hK) (fun _ h => h) (by simp [ex1, xsp, va_rf]) dX0_thingAt_39 ?_
    exact W.aret hx hb hr (Or.inl ⟨_, rfl⟩) (Or.inr ⟨_, rfl⟩) (fun t ht _ => ⟨rfl, by rw [ht]; exact hw_eq hI (congrArg (cfC D L) (ex1)), hS.F ht⟩) hS.2.2 dX0_thingAt_42
  · skip
    exact absurd c_18 (nI_m1 (by omega))
theorem k_X0_cast {l : Launch} {D : va_G} {L : Nat → Nat} {A : Nat → Prop} (x : cst) (κ q : Nat) (kd : Int32) (hκ : κ < 7) (hk8 : q < 8) (hin : ¬ inI kd 0 6 = 0) (hun : ¬ unI κ kd = 0) : Met l yX0_cast (ws_ yX0_cast cX0_cast 2 (some (.object "LeftGloves$Glove"))) ({ frames := 0, cells := 0, slots := 0, locals := 0 } : Room) (va_Pc [.ref (L (123 + (8 * κ + q))), .int kd] (pI D (cfC D L x) A)) (rQ (.ref (L (123 + (8 * κ + q))))) 0 0 nof := by
  refine met_I (by decide) rfl (Nat.le_of_ble_eq_true rfl) ?_
  intro p e s m below meth c ls hx hb hr hml hown hts hlocks hl hI hK
  have F : CallFix p m c cX0_cast 2 s _ lw_all RX0 := ⟨hx, hb, hml, hown, hts⟩
  have hl : lv_has ls 2 [(0, .ref (L (123 + (8 * κ + q)))), (1, .int kd)] := hl
  refine lv_iload_n hx hb dX0_cast_0 rfl (lv_at hl 1 rfl) ?_
  by_cases c_1_1 : kd = 1
  · skip
    refine lv_tableIn (off := 39) (tgt := 40) hx hb dX0_cast_1 (by rw [c_1_1]; decide) (by rw [c_1_1]; decide) (by rw [c_1_1]; rfl) (by decide) ?_
    refine lv_aload_n hx hb dX0_cast_40 rfl (lv_at hl 0 rfl) ?_
    refine r_castK1 hx hb hown (hts _ q304) hK hI hκ hk8 (by rw [← c_1_1]; exact hun) dX0_cast_41 ?_
    exact W.aret hx hb hr (Or.inl ⟨_, rfl⟩) (Or.inr ⟨_, rfl⟩) (fun t ht _ => ⟨rfl, ht⟩) (fun q h => by cases h) dX0_cast_44
  by_cases c_1_2 : kd = 2
  · skip
    refine lv_tableIn (off := 44) (tgt := 45) hx hb dX0_cast_1 (by rw [c_1_2]; decide) (by rw [c_1_2]; decide) (by rw [c_1_2]; rfl) (by decide) ?_
    refine lv_aload_n hx hb dX0_cast_45 rfl (lv_at hl 0 rfl) ?_
    refine r_castK2 hx hb hown (hts _ q326) hK hI hκ hk8 (by rw [← c_1_2]; exact hun) dX0_cast_46 ?_
    exact W.aret hx hb hr (Or.inl ⟨_, rfl⟩) (Or.inr ⟨_, rfl⟩) (fun t ht _ => ⟨rfl, ht⟩) (fun q h => by cases h) dX0_cast_49
  by_cases c_1_3 : kd = 3
  · skip
    refine lv_tableIn (off := 49) (tgt := 50) hx hb dX0_cast_1 (by rw [c_1_3]; decide) (by rw [c_1_3]; decide) (by rw [c_1_3]; rfl) (by decide) ?_
    refine lv_aload_n hx hb dX0_cast_50 rfl (lv_at hl 0 rfl) ?_
    refine r_castK3 hx hb hown (hts _ q338) hK hI hκ hk8 (by rw [← c_1_3]; exact hun) dX0_cast_51 ?_
    exact W.aret hx hb hr (Or.inl ⟨_, rfl⟩) (Or.inr ⟨_, rfl⟩) (fun t ht _ => ⟨rfl, ht⟩) (fun q h => by cases h) dX0_cast_54
  by_cases c_1_4 : kd = 4
  · skip
    refine lv_tableIn (off := 54) (tgt := 55) hx hb dX0_cast_1 (by rw [c_1_4]; decide) (by rw [c_1_4]; decide) (by rw [c_1_4]; rfl) (by decide) ?_
    refine lv_aload_n hx hb dX0_cast_55 rfl (lv_at hl 0 rfl) ?_
    refine r_castK4 hx hb hown (hts _ q351) hK hI hκ hk8 (by rw [← c_1_4]; exact hun) dX0_cast_56 ?_
    exact W.aret hx hb hr (Or.inl ⟨_, rfl⟩) (Or.inr ⟨_, rfl⟩) (fun t ht _ => ⟨rfl, ht⟩) (fun q h => by cases h) dX0_cast_59
  by_cases c_1_5 : kd = 5
  · skip
    refine lv_tableIn (off := 59) (tgt := 60) hx hb dX0_cast_1 (by rw [c_1_5]; decide) (by rw [c_1_5]; decide) (by rw [c_1_5]; rfl) (by decide) ?_
    refine lv_aload_n hx hb dX0_cast_60 rfl (lv_at hl 0 rfl) ?_
    refine r_castK5 hx hb hown (hts _ q365) hK hI hκ hk8 (by rw [← c_1_5]; exact hun) dX0_cast_61 ?_
    exact W.aret hx hb hr (Or.inl ⟨_, rfl⟩) (Or.inr ⟨_, rfl⟩) (fun t ht _ => ⟨rfl, ht⟩) (fun q h => by cases h) dX0_cast_64
  by_cases c_1_6 : kd = 6
  · skip
    refine lv_tableIn (off := 64) (tgt := 65) hx hb dX0_cast_1 (by rw [c_1_6]; decide) (by rw [c_1_6]; decide) (by rw [c_1_6]; rfl) (by decide) ?_
    refine lv_aload_n hx hb dX0_cast_65 rfl (lv_at hl 0 rfl) ?_
    refine r_castK6 hx hb hown (hts _ q377) hK hI hκ hk8 (by rw [← c_1_6]; exact hun) dX0_cast_66 ?_
    exact W.aret hx hb hr (Or.inl ⟨_, rfl⟩) (Or.inr ⟨_, rfl⟩) (fun t ht _ => ⟨rfl, ht⟩) (fun q h => by cases h) dX0_cast_69
  refine lv_tableOut (tgt := 70) hx hb dX0_cast_1 (by have n0 := lv_neT c_1_1 (a := 1) (by decide); have n1 := lv_neT c_1_2 (a := 2) (by decide); have n2 := lv_neT c_1_3 (a := 3) (by decide); have n3 := lv_neT c_1_4 (a := 4) (by decide); have n4 := lv_neT c_1_5 (a := 5) (by decide); have n5 := lv_neT c_1_6 (a := 6) (by decide); omega) (by decide) ?_
  have hk0 : kd = 0 := in6_0 hin c_1_1 c_1_2 c_1_3 c_1_4 c_1_5 c_1_6
  refine lv_aload_n hx hb dX0_cast_70 rfl (lv_at hl 0 rfl) ?_
  refine r_castG hx hb hown (hts _ q390) hK hI hκ hk8 dX0_cast_71 ?_
  exact W.aret hx hb hr (Or.inl ⟨_, rfl⟩) (Or.inr ⟨_, rfl⟩) (fun t ht _ => ⟨rfl, ht⟩) (fun q h => by cases h) dX0_cast_74
theorem k_X0_as {l : Launch} {D : va_G} {L : Nat → Nat} {A : Nat → Prop} (x : cst) (hO : wOk (x.1 0)) (s0 kd : Int32) : Met l yX0_as (ws_ yX0_as cX0_as 5 (some .int)) ({ frames := 7, cells := 0, slots := 0, locals := 143 } : Room) (va_Pc [.ref (L 44), .int s0, .int kd] (pI D (cfC D L x) A)) (jQ D L (aC x (a_as (x.1 0) s0 kd)) A (some (.int (aR (a_as (x.1 0) s0 kd))))) 0 0 A := by
  refine met_I (by decide) rfl (Nat.le_of_ble_eq_true rfl) ?_
  intro p e s m below meth c ls hx hb hr hml hown hts hlocks hl hI hK
  have F : CallFix p m c cX0_as 5 s _ lw_all RX0 := ⟨hx, hb, hml, hown, hts⟩
  have hl : lv_has ls 5 [(0, .ref (L 44)), (1, .int s0), (2, .int kd)] := hl
  have hS : va_S A s.heap s.heap [] := va_S.rf
  refine lv_iload_n hx hb dX0_as_0 rfl (lv_at hl 1 rfl) ?_
  refine c_r (k_S (As := [.int s0]) (rest := []) F (k_X0_isSpot s0) (va_cwS 1 hts (lw_S q1064 q1065 q91 q1066) rfl rfl rfl (by decide +kernel) ⟨Nat.le_of_ble_eq_true rfl, Nat.le_of_ble_eq_true rfl⟩) rfl hl.1 rfl (Nat.le_of_ble_eq_true rfl) dX0_as_1 ⟨Nat.le_of_ble_eq_true rfl, Nat.le_of_ble_eq_true rfl⟩) ?_
  refine lv_if_eq (tgt := 14) hx hb dX0_as_4 (by decide) (fun c_4 => ?_) (fun c_4 => ?_)
  · skip
    refine lv_aload_n hx hb dX0_as_14 rfl (lv_at hl 0 rfl) ?_
    refine lv_iconst (v := 0) hx hb dX0_as_15 (by decide) ?_
    refine c_m (k_V (As := [.int 0]) (rest := []) F (k_X0_finding x 0 (by decide)) (cwV 1 hts (lw_V q457 q459 qs2 q91 q460) rfl rfl rfl (by decide +kernel) ⟨Nat.le_of_ble_eq_true rfl, Nat.le_of_ble_eq_true rfl⟩) hI hK (hw.recv hI hK (cf_main) rfl) rfl hl.1 rfl (Nat.le_of_ble_eq_true rfl) dX0_as_16 ⟨Nat.le_of_ble_eq_true rfl, Nat.le_of_ble_eq_true rfl⟩) hS (fun H1 locs1 hI hS => ?_)
    obtain ⟨x1, ex1⟩ : ∃ z, z = (fnd x 0) := ⟨_, rfl⟩
    rw [← ex1] at hI
    exact W.iret hx hb hr (fun t ht _ => ⟨rI (by simp [a_as, aR, c_4]), ⟨x1, (by refine jk_eq ?_; rw [ex1]; simp [a_as, aC, c_4]), by rw [ht]; exact hI⟩, hS.F ht⟩) hS.2.2 dX0_as_19
  · skip
    refine lv_iload_n hx hb dX0_as_7 rfl (lv_at hl 2 rfl) ?_
    refine c_r (k_S (As := [.int kd]) (rest := []) F (k_X0_isKind kd) (va_cwS 1 hts (lw_S q532 q533 q91 q534) rfl rfl rfl (by decide +kernel) ⟨Nat.le_of_ble_eq_true rfl, Nat.le_of_ble_eq_true rfl⟩) rfl hl.1 rfl (Nat.le_of_ble_eq_true rfl) dX0_as_8 ⟨Nat.le_of_ble_eq_true rfl, Nat.le_of_ble_eq_true rfl⟩) ?_
    refine lv_if_ne (tgt := 20) hx hb dX0_as_11 (by decide) (fun c_11 => ?_) (fun c_11 => ?_)
    · skip
      obtain ⟨j, hj, es0⟩ := inI_to (b := 9) rfl (by decide) c_4
      have es02 : s0.toNatClampNeg = j := by rw [es0, nI_clamp (by omega)]
      subst es0
      refine lv_aload_n hx hb dX0_as_20 rfl (lv_at hl 0 rfl) ?_
      refine lv_iload_n hx hb dX0_as_21 rfl (lv_at hl 1 rfl) ?_
      by_cases h9 : x.1 0 9 j = -1
      · skip
        refine c_m (k_V (As := [.int (nI j)]) (rest := []) F (k_X0_thingAt_n x j (by omega) h9) (cwV 1 hts (lw_V q1071 q1073 qs43 q91 q1074) rfl rfl rfl (by decide +kernel) ⟨Nat.le_of_ble_eq_true rfl, Nat.le_of_ble_eq_true rfl⟩) hI hK (hw.recv hI hK (cf_main) rfl) rfl hl.1 rfl (Nat.le_of_ble_eq_true rfl) dX0_as_22 ⟨Nat.le_of_ble_eq_true rfl, Nat.le_of_ble_eq_true rfl⟩) hS (fun H1 locs1 hI hS => ?_)
        obtain ⟨x2, ex2⟩ : ∃ z, z = xsp x j none := ⟨_, rfl⟩
        rw [← ex2] at hI
        refine lv_astore_nN (lv' := [(3, .null), (0, .ref (L 44)), (1, .int (nI j)), (2, .int kd)]) hx hb dX0_as_25 rfl hl (by decide) rfl (fun ls hl => ?_)
        refine lv_aload_nN hx hb dX0_as_26 rfl (lv_at hl 0 rfl) ?_
        refine lv_ifnonnullN hx hb dX0_as_27 ?_
        refine lv_aload_n hx hb dX0_as_30 rfl (lv_at hl 1 rfl) ?_
        refine lv_iconst (v := 5) hx hb dX0_as_31 (by decide) ?_
        refine c_m (k_V (As := [.int 5]) (rest := []) F (k_X0_finding x2 5 (by decide)) (cwV 1 hts (lw_V q457 q459 qs2 q91 q460) rfl rfl rfl (by decide +kernel) ⟨Nat.le_of_ble_eq_true rfl, Nat.le_of_ble_eq_true rfl⟩) hI hK (hw.recv hI hK (cf_main) rfl) rfl hl.1 rfl (Nat.le_of_ble_eq_true rfl) dX0_as_32 ⟨Nat.le_of_ble_eq_true rfl, Nat.le_of_ble_eq_true rfl⟩) hS (fun H1 locs1 hI hS => ?_)
        obtain ⟨x3, ex3⟩ : ∃ z, z = (fnd x2 5) := ⟨_, rfl⟩
        rw [← ex3] at hI
        exact W.iret hx hb hr (fun t ht _ => ⟨rI (by rw [as_0C c_4 c_11 es02 h9]; rfl), ⟨x3, (by rw [as_0C c_4 c_11 es02 h9, aC, ex3]; refine jk_fnd ?_ _; rw [ex2]; exact jk_sp _ _ _), by rw [ht]; exact hI⟩, hS.F ht⟩) hS.2.2 dX0_as_35
      · skip
        have h9m := h9
        obtain ⟨q, hq8, h9⟩ := (hO.2.2.2.2 j (by omega)).resolve_left h9m
        have hκ := (hO.k hq8).2
        have ek := (hO.k hq8).1
        refine c_m (k_V (As := [.int (nI j)]) (rest := []) F (k_X0_thingAt_r x j q (kN (x.1 0) q) (by omega) hq8 hκ h9 ek) (cwV 1 hts (lw_V q1071 q1073 qs43 q91 q1074) rfl rfl rfl (by decide +kernel) ⟨Nat.le_of_ble_eq_true rfl, Nat.le_of_ble_eq_true rfl⟩) hI hK (hw.recv hI hK (cf_main) rfl) rfl hl.1 rfl (Nat.le_of_ble_eq_true rfl) dX0_as_22 ⟨Nat.le_of_ble_eq_true rfl, Nat.le_of_ble_eq_true rfl⟩) hS (fun H1 locs1 hI hS => ?_)
        obtain ⟨x4, ex4⟩ : ∃ z, z = xsp x j (some (L (123 + (8 * kN (x.1 0) q + q)))) := ⟨_, rfl⟩
        rw [← ex4] at hI
        refine lv_astore_n (lv' := [(3, .ref (L (123 + (8 * kN (x.1 0) q + q)))), (0, .ref (L 44)), (1, .int (nI j)), (2, .int kd)]) hx hb dX0_as_25 rfl hl (by decide) rfl (fun ls hl => ?_)
        refine lv_aload_n hx hb dX0_as_26 rfl (lv_at hl 0 rfl) ?_
        refine lv_ifnonnull (tgt := 36) hx hb dX0_as_27 (by decide) ?_
        refine lv_aload_n hx hb dX0_as_36 rfl (lv_at hl 0 rfl) ?_
        refine r_instG hx hb hown (hts _ q390) hK hI hκ hq8 dX0_as_37 ?_
        refine lv_if_eq (tgt := 58) hx hb dX0_as_40 (by decide) (fun c_40 => ?_) (fun c_40 => ?_)
        · skip
          have c_40 : 1 = 0 := (neq (a := 1) (b := 0) (rfl) (rfl) (by omega) (by omega)).mp c_40
          exact absurd c_40 (by decide)
        · skip
          have c_40 : ¬ 1 = 0 := fun z => c_40 ((neq (a := 1) (b := 0) (rfl) (rfl) (by omega) (by omega)).mpr z)
          refine lv_aload_n hx hb dX0_as_43 rfl (lv_at hl 0 rfl) ?_
          refine r_castG hx hb hown (hts _ q390) hK hI hκ hq8 dX0_as_44 ?_
          refine lv_iload_n hx hb dX0_as_47 rfl (lv_at hl 3 rfl) ?_
          refine c_r (run_isUnder (rest := []) F hκ hq8 hI hK hl.1 (Nat.le_of_ble_eq_true rfl) dX0_as_48 ⟨Nat.le_of_ble_eq_true rfl, Nat.le_of_ble_eq_true rfl⟩ ⟨Nat.le_of_ble_eq_true rfl, Nat.le_of_ble_eq_true rfl⟩) ?_
          refine lv_if_eq (tgt := 58) hx hb dX0_as_51 (by decide) (fun c_51 => ?_) (fun c_51 => ?_)
          · skip
            refine lv_iconst (v := 0) hx hb dX0_as_58 (by decide) ?_
            refine lv_istore (lv' := [(4, .int 0), (3, .ref (L (123 + (8 * kN (x.1 0) q + q)))), (0, .ref (L 44)), (1, .int (nI j)), (2, .int kd)]) hx hb dX0_as_59 hl (by decide) rfl (fun ls hl => ?_)
            refine lv_iload hx hb dX0_as_61 (lv_at hl 0 rfl) ?_
            refine lv_if_eq (tgt := 77) hx hb dX0_as_63 (by decide) (fun c_63 => ?_) (fun c_63 => ?_)
            · skip
              have c_63 : 0 = 0 := (neq (a := 0) (b := 0) (rfl) (rfl) (by omega) (by omega)).mp c_63
              refine lv_aload_n hx hb dX0_as_77 rfl (lv_at hl 2 rfl) ?_
              refine lv_iconst (v := 2) hx hb dX0_as_78 (by decide) ?_
              refine c_m (k_V (As := [.int 2]) (rest := []) F (k_X0_finding x4 2 (by decide)) (cwV 1 hts (lw_V q457 q459 qs2 q91 q460) rfl rfl rfl (by decide +kernel) ⟨Nat.le_of_ble_eq_true rfl, Nat.le_of_ble_eq_true rfl⟩) hI hK (hw.recv hI hK (cf_main) rfl) rfl hl.1 rfl (Nat.le_of_ble_eq_true rfl) dX0_as_79 ⟨Nat.le_of_ble_eq_true rfl, Nat.le_of_ble_eq_true rfl⟩) hS (fun H1 locs1 hI hS => ?_)
              obtain ⟨x5, ex5⟩ : ∃ z, z = (fnd x4 2) := ⟨_, rfl⟩
              rw [← ex5] at hI
              exact W.iret hx hb hr (fun t ht _ => ⟨rI (by rw [as_vC c_4 c_11 es02 h9 hq8]; first | (rw [if_pos c_51]; rfl) | (rw [if_neg c_51]; rfl)), ⟨x5, (by rw [as_vC c_4 c_11 es02 h9 hq8]; first | (rw [if_pos c_51, aC, ex5]; refine jk_fnd ?_ _; rw [ex4]; exact jk_sp _ _ _) | (rw [if_neg c_51, aC, xs_self, ex5, ex4]; exact jk_sp _ _ _)), by rw [ht]; exact hI⟩, hS.F ht⟩) hS.2.2 dX0_as_82
            · skip
              have c_63 : ¬ 0 = 0 := fun z => c_63 ((neq (a := 0) (b := 0) (rfl) (rfl) (by omega) (by omega)).mpr z)
              exact absurd (by decide) c_63
          · skip
            refine lv_iconst (v := 1) hx hb dX0_as_54 (by decide) ?_
            refine lv_goto (tgt := 59) hx hb dX0_as_55 (by decide) ?_
            refine lv_istore (lv' := [(4, .int 1), (3, .ref (L (123 + (8 * kN (x.1 0) q + q)))), (0, .ref (L 44)), (1, .int (nI j)), (2, .int kd)]) hx hb dX0_as_59 hl (by decide) rfl (fun ls hl => ?_)
            refine lv_iload hx hb dX0_as_61 (lv_at hl 0 rfl) ?_
            refine lv_if_eq (tgt := 77) hx hb dX0_as_63 (by decide) (fun c_63 => ?_) (fun c_63 => ?_)
            · skip
              have c_63 : 1 = 0 := (neq (a := 1) (b := 0) (rfl) (rfl) (by omega) (by omega)).mp c_63
              exact absurd c_63 (by decide)
            · skip
              have c_63 : ¬ 1 = 0 := fun z => c_63 ((neq (a := 1) (b := 0) (rfl) (rfl) (by omega) (by omega)).mpr z)
              refine lv_aload_n hx hb dX0_as_66 rfl (lv_at hl 1 rfl) ?_
              refine lv_iload_n hx hb dX0_as_67 rfl (lv_at hl 4 rfl) ?_
              refine c_r (k_SI (As := [.ref (L (123 + (8 * kN (x.1 0) q + q))), .int kd]) (rest := []) F (k_X0_cast x4 (kN (x.1 0) q) q kd hκ hq8 c_11 (by assumption)) (va_cwS 2 hts (lw_S q1096 q1097 q91 q1098) rfl rfl rfl (by decide +kernel) ⟨Nat.le_of_ble_eq_true rfl, Nat.le_of_ble_eq_true rfl⟩) hI hK rfl hl.1 rfl (Nat.le_of_ble_eq_true rfl) dX0_as_68 ⟨Nat.le_of_ble_eq_true rfl, Nat.le_of_ble_eq_true rfl⟩) ?_
              refine r_numG hx hb hts hown hK hI hκ hq8 (hts _ q317) dX0_as_71 ?_
              refine lv_goto (tgt := 82) hx hb dX0_as_74 (by decide) ?_
              exact W.iret hx hb hr (fun t ht _ => ⟨rI (by rw [as_vC c_4 c_11 es02 h9 hq8]; first | (rw [if_pos c_51]; rfl) | (rw [if_neg c_51]; rfl)), ⟨x4, (by rw [as_vC c_4 c_11 es02 h9 hq8]; first | (rw [if_pos c_51, aC, ex4]; refine jk_fnd ?_ _; rw []; exact jk_sp _ _ _) | (rw [if_neg c_51, aC, xs_self, ex4]; exact jk_sp _ _ _)), by rw [ht]; exact hI⟩, hS.F ht⟩) hS.2.2 dX0_as_82
    · skip
      refine lv_aload_n hx hb dX0_as_14 rfl (lv_at hl 0 rfl) ?_
      refine lv_iconst (v := 0) hx hb dX0_as_15 (by decide) ?_
      refine c_m (k_V (As := [.int 0]) (rest := []) F (k_X0_finding x 0 (by decide)) (cwV 1 hts (lw_V q457 q459 qs2 q91 q460) rfl rfl rfl (by decide +kernel) ⟨Nat.le_of_ble_eq_true rfl, Nat.le_of_ble_eq_true rfl⟩) hI hK (hw.recv hI hK (cf_main) rfl) rfl hl.1 rfl (Nat.le_of_ble_eq_true rfl) dX0_as_16 ⟨Nat.le_of_ble_eq_true rfl, Nat.le_of_ble_eq_true rfl⟩) hS (fun H1 locs1 hI hS => ?_)
      obtain ⟨x6, ex6⟩ : ∃ z, z = (fnd x 0) := ⟨_, rfl⟩
      rw [← ex6] at hI
      exact W.iret hx hb hr (fun t ht _ => ⟨rI (by simp [a_as, aR, c_4, c_11]), ⟨x6, (by refine jk_eq ?_; rw [ex6]; simp [a_as, aC, c_4, c_11]), by rw [ht]; exact hI⟩, hS.F ht⟩) hS.2.2 dX0_as_19
theorem k_X0_length_0 {l : Launch} {D : va_G} {L : Nat → Nat} {A : Nat → Prop} (x : cst) (sn sa sz : Nat) (sg : Nat → Int32) (hs4 : sn < 4) (hq : x.2.2.2 sn = some (sa, 0, sz, sg)) (hn40 : sz ≤ 40) : Met l yX0_length (ws_ yX0_length cX0_length 1 (some .int)) ({ frames := 0, cells := 0, slots := 0, locals := 0 } : Room) (va_Pc [.ref sa] (pI D (cfC D L x) A)) (rQ (.int (nI sz))) 0 0 nof := by
  refine met_I (by decide) rfl (Nat.le_of_ble_eq_true rfl) ?_
  intro p e s m below meth c ls hx hb hr hml hown hts hlocks hl hI hK
  have F : CallFix p m c cX0_length 1 s _ lw_all RX0 := ⟨hx, hb, hml, hown, hts⟩
  have hl : lv_has ls 1 [(0, .ref sa)] := hl
  refine lv_aload_n hx hb dX0_length_0 rfl (lv_at hl 0 rfl) ?_
  refine r_instA hx hb hown (hts _ q900) hI (cf_sh4 (k := sn) hs4 hq) (va_nm_byte (hK.1.2 1 _ rfl).2) dX0_length_1 ?_
  refine lv_if_eq (tgt := 15) hx hb dX0_length_4 (by decide) (fun c_4 => ?_) (fun c_4 => ?_)
  · skip
    have c_4 : 1 = 0 := (neq (a := 1) (b := 0) (rfl) (rfl) (by omega) (by omega)).mp c_4
    exact absurd c_4 (by decide)
  · skip
    have c_4 : ¬ 1 = 0 := fun z => c_4 ((neq (a := 1) (b := 0) (rfl) (rfl) (by omega) (by omega)).mpr z)
    refine lv_aload_n hx hb dX0_length_7 rfl (lv_at hl 0 rfl) ?_
    refine r_castA hx hb hown (hts _ q900) hI (cf_sh4 (k := sn) hs4 hq) (va_nm_byte (hK.1.2 1 _ rfl).2) dX0_length_8 ?_
    refine r_alen (v := (nI sz)) hx hb hK hI (cf_sh4 (k := sn) hs4 hq) 1 rfl (rfl) dX0_length_11 ?_
    refine lv_goto (tgt := 35) hx hb dX0_length_12 (by decide) ?_
    exact W.iret hx hb hr (fun t ht _ => ⟨rI (rfl), ht⟩) (fun q h => by cases h) dX0_length_35
theorem k_X0_length_1 {l : Launch} {D : va_G} {L : Nat → Nat} {A : Nat → Prop} (x : cst) (sn sa sz : Nat) (sg : Nat → Int32) (hs4 : sn < 4) (hq : x.2.2.2 sn = some (sa, 1, sz, sg)) (hn40 : sz ≤ 40) : Met l yX0_length (ws_ yX0_length cX0_length 1 (some .int)) ({ frames := 0, cells := 0, slots := 0, locals := 0 } : Room) (va_Pc [.ref sa] (pI D (cfC D L x) A)) (rQ (.int (nI sz))) 0 0 nof := by
  refine met_I (by decide) rfl (Nat.le_of_ble_eq_true rfl) ?_
  intro p e s m below meth c ls hx hb hr hml hown hts hlocks hl hI hK
  have F : CallFix p m c cX0_length 1 s _ lw_all RX0 := ⟨hx, hb, hml, hown, hts⟩
  have hl : lv_has ls 1 [(0, .ref sa)] := hl
  refine lv_aload_n hx hb dX0_length_0 rfl (lv_at hl 0 rfl) ?_
  refine va_instNo hx hb hown (hts _ q900) (hK.2.2.2.2 ("[S", "[B") (by decide)) (arr_recv hI (cf_sh4 (k := sn) hs4 hq) (va_nm_short (hK.1.2 2 _ rfl).2)) dX0_length_1 ?_
  refine lv_if_eq (tgt := 15) hx hb dX0_length_4 (by decide) (fun c_4 => ?_) (fun c_4 => ?_)
  · skip
    have c_4 : 0 = 0 := (neq (a := 0) (b := 0) (rfl) (rfl) (by omega) (by omega)).mp c_4
    refine lv_aload_n hx hb dX0_length_15 rfl (lv_at hl 0 rfl) ?_
    refine r_instA hx hb hown (hts _ q901) hI (cf_sh4 (k := sn) hs4 hq) (va_nm_short (hK.1.2 2 _ rfl).2) dX0_length_16 ?_
    refine lv_if_eq (tgt := 30) hx hb dX0_length_19 (by decide) (fun c_19 => ?_) (fun c_19 => ?_)
    · skip
      have c_19 : 1 = 0 := (neq (a := 1) (b := 0) (rfl) (rfl) (by omega) (by omega)).mp c_19
      exact absurd c_19 (by decide)
    · skip
      have c_19 : ¬ 1 = 0 := fun z => c_19 ((neq (a := 1) (b := 0) (rfl) (rfl) (by omega) (by omega)).mpr z)
      refine lv_aload_n hx hb dX0_length_22 rfl (lv_at hl 0 rfl) ?_
      refine r_castA hx hb hown (hts _ q901) hI (cf_sh4 (k := sn) hs4 hq) (va_nm_short (hK.1.2 2 _ rfl).2) dX0_length_23 ?_
      refine r_alen (v := (nI sz)) hx hb hK hI (cf_sh4 (k := sn) hs4 hq) 2 rfl (rfl) dX0_length_26 ?_
      refine lv_goto (tgt := 35) hx hb dX0_length_27 (by decide) ?_
      exact W.iret hx hb hr (fun t ht _ => ⟨rI (rfl), ht⟩) (fun q h => by cases h) dX0_length_35
  · skip
    have c_4 : ¬ 0 = 0 := fun z => c_4 ((neq (a := 0) (b := 0) (rfl) (rfl) (by omega) (by omega)).mpr z)
    exact absurd (by decide) c_4
theorem k_X0_length_2 {l : Launch} {D : va_G} {L : Nat → Nat} {A : Nat → Prop} (x : cst) (sn sa sz : Nat) (sg : Nat → Int32) (hs4 : sn < 4) (hq : x.2.2.2 sn = some (sa, 2, sz, sg)) (hn40 : sz ≤ 40) : Met l yX0_length (ws_ yX0_length cX0_length 1 (some .int)) ({ frames := 0, cells := 0, slots := 0, locals := 0 } : Room) (va_Pc [.ref sa] (pI D (cfC D L x) A)) (rQ (.int (nI sz))) 0 0 nof := by
  refine met_I (by decide) rfl (Nat.le_of_ble_eq_true rfl) ?_
  intro p e s m below meth c ls hx hb hr hml hown hts hlocks hl hI hK
  have F : CallFix p m c cX0_length 1 s _ lw_all RX0 := ⟨hx, hb, hml, hown, hts⟩
  have hl : lv_has ls 1 [(0, .ref sa)] := hl
  refine lv_aload_n hx hb dX0_length_0 rfl (lv_at hl 0 rfl) ?_
  refine va_instNo hx hb hown (hts _ q900) (hK.2.2.2.2 ("[I", "[B") (by decide)) (arr_recv hI (cf_sh4 (k := sn) hs4 hq) (va_nm_int (hK.1.2 0 _ rfl).2)) dX0_length_1 ?_
  refine lv_if_eq (tgt := 15) hx hb dX0_length_4 (by decide) (fun c_4 => ?_) (fun c_4 => ?_)
  · skip
    have c_4 : 0 = 0 := (neq (a := 0) (b := 0) (rfl) (rfl) (by omega) (by omega)).mp c_4
    refine lv_aload_n hx hb dX0_length_15 rfl (lv_at hl 0 rfl) ?_
    refine va_instNo hx hb hown (hts _ q901) (hK.2.2.2.2 ("[I", "[S") (by decide)) (arr_recv hI (cf_sh4 (k := sn) hs4 hq) (va_nm_int (hK.1.2 0 _ rfl).2)) dX0_length_16 ?_
    refine lv_if_eq (tgt := 30) hx hb dX0_length_19 (by decide) (fun c_19 => ?_) (fun c_19 => ?_)
    · skip
      have c_19 : 0 = 0 := (neq (a := 0) (b := 0) (rfl) (rfl) (by omega) (by omega)).mp c_19
      refine lv_aload_n hx hb dX0_length_30 rfl (lv_at hl 0 rfl) ?_
      refine r_castA hx hb hown (hts _ q902) hI (cf_sh4 (k := sn) hs4 hq) (va_nm_int (hK.1.2 0 _ rfl).2) dX0_length_31 ?_
      refine r_alen (v := (nI sz)) hx hb hK hI (cf_sh4 (k := sn) hs4 hq) 0 rfl (rfl) dX0_length_34 ?_
      exact W.iret hx hb hr (fun t ht _ => ⟨rI (rfl), ht⟩) (fun q h => by cases h) dX0_length_35
    · skip
      have c_19 : ¬ 0 = 0 := fun z => c_19 ((neq (a := 0) (b := 0) (rfl) (rfl) (by omega) (by omega)).mpr z)
      exact absurd (by decide) c_19
  · skip
    have c_4 : ¬ 0 = 0 := fun z => c_4 ((neq (a := 0) (b := 0) (rfl) (rfl) (by omega) (by omega)).mpr z)
    exact absurd (by decide) c_4
theorem k_X0_length {l : Launch} {D : va_G} {L : Nat → Nat} {A : Nat → Prop} (x : cst) (sn sa t sz : Nat) (sg : Nat → Int32) (hs4 : sn < 4) (hq : x.2.2.2 sn = some (sa, t, sz, sg)) (ht3 : t < 3) (hn40 : sz ≤ 40) : Met l yX0_length (ws_ yX0_length cX0_length 1 (some .int)) ({ frames := 0, cells := 0, slots := 0, locals := 0 } : Room) (va_Pc [.ref sa] (pI D (cfC D L x) A)) (rQ (.int (nI sz))) 0 0 nof := by
  match t, ht3, hq with
  | 0, _, hq => exact k_X0_length_0 x sn sa sz sg hs4 hq hn40
  | 1, _, hq => exact k_X0_length_1 x sn sa sz sg hs4 hq hn40
  | 2, _, hq => exact k_X0_length_2 x sn sa sz sg hs4 hq hn40
theorem k_X0_number_0 {l : Launch} {D : va_G} {L : Nat → Nat} {A : Nat → Prop} (x : cst) (sn sa sz : Nat) (sg : Nat → Int32) (hs4 : sn < 4) (hq : x.2.2.2 sn = some (sa, 0, sz, sg)) (hn40 : sz ≤ 40) (i : Nat) (hi : i < sz) : Met l yX0_number (ws_ yX0_number cX0_number 2 (some .int)) ({ frames := 0, cells := 0, slots := 0, locals := 0 } : Room) (va_Pc [.ref sa, .int (nI i)] (pI D (cfC D L x) A)) (rQ (.int (sg i))) 0 0 nof := by
  refine met_I (by decide) rfl (Nat.le_of_ble_eq_true rfl) ?_
  intro p e s m below meth c ls hx hb hr hml hown hts hlocks hl hI hK
  have F : CallFix p m c cX0_number 2 s _ lw_all RX0 := ⟨hx, hb, hml, hown, hts⟩
  have hl : lv_has ls 2 [(0, .ref sa), (1, .int (nI i))] := hl
  refine lv_aload_n hx hb dX0_number_0 rfl (lv_at hl 0 rfl) ?_
  refine r_instA hx hb hown (hts _ q900) hI (cf_sh4 (k := sn) hs4 hq) (va_nm_byte (hK.1.2 1 _ rfl).2) dX0_number_1 ?_
  refine lv_if_eq (tgt := 16) hx hb dX0_number_4 (by decide) (fun c_4 => ?_) (fun c_4 => ?_)
  · skip
    have c_4 : 1 = 0 := (neq (a := 1) (b := 0) (rfl) (rfl) (by omega) (by omega)).mp c_4
    exact absurd c_4 (by decide)
  · skip
    have c_4 : ¬ 1 = 0 := fun z => c_4 ((neq (a := 1) (b := 0) (rfl) (rfl) (by omega) (by omega)).mpr z)
    refine lv_aload_n hx hb dX0_number_7 rfl (lv_at hl 0 rfl) ?_
    refine r_castA hx hb hown (hts _ q900) hI (cf_sh4 (k := sn) hs4 hq) (va_nm_byte (hK.1.2 1 _ rfl).2) dX0_number_8 ?_
    refine lv_iload_n hx hb dX0_number_11 rfl (lv_at hl 1 rfl) ?_
    refine n_bald (k := i) hx hb hK hI (cf_sh4 (k := sn) hs4 hq) (rfl) (by omega) (by omega) dX0_number_12 ?_
    refine lv_goto (tgt := 38) hx hb dX0_number_13 (by decide) ?_
    exact W.iret hx hb hr (fun t ht _ => ⟨rI (rfl), ht⟩) (fun q h => by cases h) dX0_number_38
theorem k_X0_number_1 {l : Launch} {D : va_G} {L : Nat → Nat} {A : Nat → Prop} (x : cst) (sn sa sz : Nat) (sg : Nat → Int32) (hs4 : sn < 4) (hq : x.2.2.2 sn = some (sa, 1, sz, sg)) (hn40 : sz ≤ 40) (i : Nat) (hi : i < sz) : Met l yX0_number (ws_ yX0_number cX0_number 2 (some .int)) ({ frames := 0, cells := 0, slots := 0, locals := 0 } : Room) (va_Pc [.ref sa, .int (nI i)] (pI D (cfC D L x) A)) (rQ (.int (sg i))) 0 0 nof := by
  refine met_I (by decide) rfl (Nat.le_of_ble_eq_true rfl) ?_
  intro p e s m below meth c ls hx hb hr hml hown hts hlocks hl hI hK
  have F : CallFix p m c cX0_number 2 s _ lw_all RX0 := ⟨hx, hb, hml, hown, hts⟩
  have hl : lv_has ls 2 [(0, .ref sa), (1, .int (nI i))] := hl
  refine lv_aload_n hx hb dX0_number_0 rfl (lv_at hl 0 rfl) ?_
  refine va_instNo hx hb hown (hts _ q900) (hK.2.2.2.2 ("[S", "[B") (by decide)) (arr_recv hI (cf_sh4 (k := sn) hs4 hq) (va_nm_short (hK.1.2 2 _ rfl).2)) dX0_number_1 ?_
  refine lv_if_eq (tgt := 16) hx hb dX0_number_4 (by decide) (fun c_4 => ?_) (fun c_4 => ?_)
  · skip
    have c_4 : 0 = 0 := (neq (a := 0) (b := 0) (rfl) (rfl) (by omega) (by omega)).mp c_4
    refine lv_aload_n hx hb dX0_number_16 rfl (lv_at hl 0 rfl) ?_
    refine r_instA hx hb hown (hts _ q901) hI (cf_sh4 (k := sn) hs4 hq) (va_nm_short (hK.1.2 2 _ rfl).2) dX0_number_17 ?_
    refine lv_if_eq (tgt := 32) hx hb dX0_number_20 (by decide) (fun c_20 => ?_) (fun c_20 => ?_)
    · skip
      have c_20 : 1 = 0 := (neq (a := 1) (b := 0) (rfl) (rfl) (by omega) (by omega)).mp c_20
      exact absurd c_20 (by decide)
    · skip
      have c_20 : ¬ 1 = 0 := fun z => c_20 ((neq (a := 1) (b := 0) (rfl) (rfl) (by omega) (by omega)).mpr z)
      refine lv_aload_n hx hb dX0_number_23 rfl (lv_at hl 0 rfl) ?_
      refine r_castA hx hb hown (hts _ q901) hI (cf_sh4 (k := sn) hs4 hq) (va_nm_short (hK.1.2 2 _ rfl).2) dX0_number_24 ?_
      refine lv_iload_n hx hb dX0_number_27 rfl (lv_at hl 1 rfl) ?_
      refine n_sald (k := i) hx hb hK hI (cf_sh4 (k := sn) hs4 hq) (rfl) (by omega) (by omega) dX0_number_28 ?_
      refine lv_goto (tgt := 38) hx hb dX0_number_29 (by decide) ?_
      exact W.iret hx hb hr (fun t ht _ => ⟨rI (rfl), ht⟩) (fun q h => by cases h) dX0_number_38
  · skip
    have c_4 : ¬ 0 = 0 := fun z => c_4 ((neq (a := 0) (b := 0) (rfl) (rfl) (by omega) (by omega)).mpr z)
    exact absurd (by decide) c_4
theorem k_X0_number_2 {l : Launch} {D : va_G} {L : Nat → Nat} {A : Nat → Prop} (x : cst) (sn sa sz : Nat) (sg : Nat → Int32) (hs4 : sn < 4) (hq : x.2.2.2 sn = some (sa, 2, sz, sg)) (hn40 : sz ≤ 40) (i : Nat) (hi : i < sz) : Met l yX0_number (ws_ yX0_number cX0_number 2 (some .int)) ({ frames := 0, cells := 0, slots := 0, locals := 0 } : Room) (va_Pc [.ref sa, .int (nI i)] (pI D (cfC D L x) A)) (rQ (.int (sg i))) 0 0 nof := by
  refine met_I (by decide) rfl (Nat.le_of_ble_eq_true rfl) ?_
  intro p e s m below meth c ls hx hb hr hml hown hts hlocks hl hI hK
  have F : CallFix p m c cX0_number 2 s _ lw_all RX0 := ⟨hx, hb, hml, hown, hts⟩
  have hl : lv_has ls 2 [(0, .ref sa), (1, .int (nI i))] := hl
  refine lv_aload_n hx hb dX0_number_0 rfl (lv_at hl 0 rfl) ?_
  refine va_instNo hx hb hown (hts _ q900) (hK.2.2.2.2 ("[I", "[B") (by decide)) (arr_recv hI (cf_sh4 (k := sn) hs4 hq) (va_nm_int (hK.1.2 0 _ rfl).2)) dX0_number_1 ?_
  refine lv_if_eq (tgt := 16) hx hb dX0_number_4 (by decide) (fun c_4 => ?_) (fun c_4 => ?_)
  · skip
    have c_4 : 0 = 0 := (neq (a := 0) (b := 0) (rfl) (rfl) (by omega) (by omega)).mp c_4
    refine lv_aload_n hx hb dX0_number_16 rfl (lv_at hl 0 rfl) ?_
    refine va_instNo hx hb hown (hts _ q901) (hK.2.2.2.2 ("[I", "[S") (by decide)) (arr_recv hI (cf_sh4 (k := sn) hs4 hq) (va_nm_int (hK.1.2 0 _ rfl).2)) dX0_number_17 ?_
    refine lv_if_eq (tgt := 32) hx hb dX0_number_20 (by decide) (fun c_20 => ?_) (fun c_20 => ?_)
    · skip
      have c_20 : 0 = 0 := (neq (a := 0) (b := 0) (rfl) (rfl) (by omega) (by omega)).mp c_20
      refine lv_aload_n hx hb dX0_number_32 rfl (lv_at hl 0 rfl) ?_
      refine r_castA hx hb hown (hts _ q902) hI (cf_sh4 (k := sn) hs4 hq) (va_nm_int (hK.1.2 0 _ rfl).2) dX0_number_33 ?_
      refine lv_iload_n hx hb dX0_number_36 rfl (lv_at hl 1 rfl) ?_
      refine n_iald (k := i) hx hb hK hI (cf_sh4 (k := sn) hs4 hq) (rfl) (by omega) (by omega) dX0_number_37 ?_
      exact W.iret hx hb hr (fun t ht _ => ⟨rI (rfl), ht⟩) (fun q h => by cases h) dX0_number_38
    · skip
      have c_20 : ¬ 0 = 0 := fun z => c_20 ((neq (a := 0) (b := 0) (rfl) (rfl) (by omega) (by omega)).mpr z)
      exact absurd (by decide) c_20
  · skip
    have c_4 : ¬ 0 = 0 := fun z => c_4 ((neq (a := 0) (b := 0) (rfl) (rfl) (by omega) (by omega)).mpr z)
    exact absurd (by decide) c_4
theorem k_X0_number {l : Launch} {D : va_G} {L : Nat → Nat} {A : Nat → Prop} (x : cst) (sn sa t sz : Nat) (sg : Nat → Int32) (hs4 : sn < 4) (hq : x.2.2.2 sn = some (sa, t, sz, sg)) (ht3 : t < 3) (hn40 : sz ≤ 40) (i : Nat) (hi : i < sz) : Met l yX0_number (ws_ yX0_number cX0_number 2 (some .int)) ({ frames := 0, cells := 0, slots := 0, locals := 0 } : Room) (va_Pc [.ref sa, .int (nI i)] (pI D (cfC D L x) A)) (rQ (.int (sg i))) 0 0 nof := by
  match t, ht3, hq with
  | 0, _, hq => exact k_X0_number_0 x sn sa sz sg hs4 hq hn40 i hi
  | 1, _, hq => exact k_X0_number_1 x sn sa sz sg hs4 hq hn40 i hi
  | 2, _, hq => exact k_X0_number_2 x sn sa sz sg hs4 hq hn40 i hi
theorem k_X0_widthOf_0 {l : Launch} {D : va_G} {L : Nat → Nat} {A : Nat → Prop} (x : cst) (sn sa sz : Nat) (sg : Nat → Int32) (hs4 : sn < 4) (hq : x.2.2.2 sn = some (sa, 0, sz, sg)) (hn40 : sz ≤ 40) : Met l yX0_widthOf (ws_ yX0_widthOf cX0_widthOf 1 (some .int)) ({ frames := 0, cells := 0, slots := 0, locals := 0 } : Room) (va_Pc [.ref sa] (pI D (cfC D L x) A)) (rQ (.int (nI (shb 0)))) 0 0 nof := by
  refine met_I (by decide) rfl (Nat.le_of_ble_eq_true rfl) ?_
  intro p e s m below meth c ls hx hb hr hml hown hts hlocks hl hI hK
  have F : CallFix p m c cX0_widthOf 1 s _ lw_all RX0 := ⟨hx, hb, hml, hown, hts⟩
  have hl : lv_has ls 1 [(0, .ref sa)] := hl
  refine lv_aload_n hx hb dX0_widthOf_0 rfl (lv_at hl 0 rfl) ?_
  refine r_instA hx hb hown (hts _ q900) hI (cf_sh4 (k := sn) hs4 hq) (va_nm_byte (hK.1.2 1 _ rfl).2) dX0_widthOf_1 ?_
  refine lv_if_eq (tgt := 12) hx hb dX0_widthOf_4 (by decide) (fun c_4 => ?_) (fun c_4 => ?_)
  · skip
    have c_4 : 1 = 0 := (neq (a := 1) (b := 0) (rfl) (rfl) (by omega) (by omega)).mp c_4
    exact absurd c_4 (by decide)
  · skip
    have c_4 : ¬ 1 = 0 := fun z => c_4 ((neq (a := 1) (b := 0) (rfl) (rfl) (by omega) (by omega)).mpr z)
    refine lv_bipush (v := 8) hx hb dX0_widthOf_7 (by decide) ?_
    refine lv_goto (tgt := 26) hx hb dX0_widthOf_9 (by decide) ?_
    exact W.iret hx hb hr (fun t ht _ => ⟨rI (rfl), ht⟩) (fun q h => by cases h) dX0_widthOf_26
theorem k_X0_widthOf_1 {l : Launch} {D : va_G} {L : Nat → Nat} {A : Nat → Prop} (x : cst) (sn sa sz : Nat) (sg : Nat → Int32) (hs4 : sn < 4) (hq : x.2.2.2 sn = some (sa, 1, sz, sg)) (hn40 : sz ≤ 40) : Met l yX0_widthOf (ws_ yX0_widthOf cX0_widthOf 1 (some .int)) ({ frames := 0, cells := 0, slots := 0, locals := 0 } : Room) (va_Pc [.ref sa] (pI D (cfC D L x) A)) (rQ (.int (nI (shb 1)))) 0 0 nof := by
  refine met_I (by decide) rfl (Nat.le_of_ble_eq_true rfl) ?_
  intro p e s m below meth c ls hx hb hr hml hown hts hlocks hl hI hK
  have F : CallFix p m c cX0_widthOf 1 s _ lw_all RX0 := ⟨hx, hb, hml, hown, hts⟩
  have hl : lv_has ls 1 [(0, .ref sa)] := hl
  refine lv_aload_n hx hb dX0_widthOf_0 rfl (lv_at hl 0 rfl) ?_
  refine va_instNo hx hb hown (hts _ q900) (hK.2.2.2.2 ("[S", "[B") (by decide)) (arr_recv hI (cf_sh4 (k := sn) hs4 hq) (va_nm_short (hK.1.2 2 _ rfl).2)) dX0_widthOf_1 ?_
  refine lv_if_eq (tgt := 12) hx hb dX0_widthOf_4 (by decide) (fun c_4 => ?_) (fun c_4 => ?_)
  · skip
    have c_4 : 0 = 0 := (neq (a := 0) (b := 0) (rfl) (rfl) (by omega) (by omega)).mp c_4
    refine lv_aload_n hx hb dX0_widthOf_12 rfl (lv_at hl 0 rfl) ?_
    refine r_instA hx hb hown (hts _ q901) hI (cf_sh4 (k := sn) hs4 hq) (va_nm_short (hK.1.2 2 _ rfl).2) dX0_widthOf_13 ?_
    refine lv_if_eq (tgt := 24) hx hb dX0_widthOf_16 (by decide) (fun c_16 => ?_) (fun c_16 => ?_)
    · skip
      have c_16 : 1 = 0 := (neq (a := 1) (b := 0) (rfl) (rfl) (by omega) (by omega)).mp c_16
      exact absurd c_16 (by decide)
    · skip
      have c_16 : ¬ 1 = 0 := fun z => c_16 ((neq (a := 1) (b := 0) (rfl) (rfl) (by omega) (by omega)).mpr z)
      refine lv_bipush (v := 16) hx hb dX0_widthOf_19 (by decide) ?_
      refine lv_goto (tgt := 26) hx hb dX0_widthOf_21 (by decide) ?_
      exact W.iret hx hb hr (fun t ht _ => ⟨rI (rfl), ht⟩) (fun q h => by cases h) dX0_widthOf_26
  · skip
    have c_4 : ¬ 0 = 0 := fun z => c_4 ((neq (a := 0) (b := 0) (rfl) (rfl) (by omega) (by omega)).mpr z)
    exact absurd (by decide) c_4
theorem k_X0_widthOf_2 {l : Launch} {D : va_G} {L : Nat → Nat} {A : Nat → Prop} (x : cst) (sn sa sz : Nat) (sg : Nat → Int32) (hs4 : sn < 4) (hq : x.2.2.2 sn = some (sa, 2, sz, sg)) (hn40 : sz ≤ 40) : Met l yX0_widthOf (ws_ yX0_widthOf cX0_widthOf 1 (some .int)) ({ frames := 0, cells := 0, slots := 0, locals := 0 } : Room) (va_Pc [.ref sa] (pI D (cfC D L x) A)) (rQ (.int (nI (shb 2)))) 0 0 nof := by
  refine met_I (by decide) rfl (Nat.le_of_ble_eq_true rfl) ?_
  intro p e s m below meth c ls hx hb hr hml hown hts hlocks hl hI hK
  have F : CallFix p m c cX0_widthOf 1 s _ lw_all RX0 := ⟨hx, hb, hml, hown, hts⟩
  have hl : lv_has ls 1 [(0, .ref sa)] := hl
  refine lv_aload_n hx hb dX0_widthOf_0 rfl (lv_at hl 0 rfl) ?_
  refine va_instNo hx hb hown (hts _ q900) (hK.2.2.2.2 ("[I", "[B") (by decide)) (arr_recv hI (cf_sh4 (k := sn) hs4 hq) (va_nm_int (hK.1.2 0 _ rfl).2)) dX0_widthOf_1 ?_
  refine lv_if_eq (tgt := 12) hx hb dX0_widthOf_4 (by decide) (fun c_4 => ?_) (fun c_4 => ?_)
  · skip
    have c_4 : 0 = 0 := (neq (a := 0) (b := 0) (rfl) (rfl) (by omega) (by omega)).mp c_4
    refine lv_aload_n hx hb dX0_widthOf_12 rfl (lv_at hl 0 rfl) ?_
    refine va_instNo hx hb hown (hts _ q901) (hK.2.2.2.2 ("[I", "[S") (by decide)) (arr_recv hI (cf_sh4 (k := sn) hs4 hq) (va_nm_int (hK.1.2 0 _ rfl).2)) dX0_widthOf_13 ?_
    refine lv_if_eq (tgt := 24) hx hb dX0_widthOf_16 (by decide) (fun c_16 => ?_) (fun c_16 => ?_)
    · skip
      have c_16 : 0 = 0 := (neq (a := 0) (b := 0) (rfl) (rfl) (by omega) (by omega)).mp c_16
      refine lv_bipush (v := 32) hx hb dX0_widthOf_24 (by decide) ?_
      exact W.iret hx hb hr (fun t ht _ => ⟨rI (rfl), ht⟩) (fun q h => by cases h) dX0_widthOf_26
    · skip
      have c_16 : ¬ 0 = 0 := fun z => c_16 ((neq (a := 0) (b := 0) (rfl) (rfl) (by omega) (by omega)).mpr z)
      exact absurd (by decide) c_16
  · skip
    have c_4 : ¬ 0 = 0 := fun z => c_4 ((neq (a := 0) (b := 0) (rfl) (rfl) (by omega) (by omega)).mpr z)
    exact absurd (by decide) c_4
theorem k_X0_widthOf {l : Launch} {D : va_G} {L : Nat → Nat} {A : Nat → Prop} (x : cst) (sn sa t sz : Nat) (sg : Nat → Int32) (hs4 : sn < 4) (hq : x.2.2.2 sn = some (sa, t, sz, sg)) (ht3 : t < 3) (hn40 : sz ≤ 40) : Met l yX0_widthOf (ws_ yX0_widthOf cX0_widthOf 1 (some .int)) ({ frames := 0, cells := 0, slots := 0, locals := 0 } : Room) (va_Pc [.ref sa] (pI D (cfC D L x) A)) (rQ (.int (nI (shb t)))) 0 0 nof := by
  match t, ht3, hq with
  | 0, _, hq => exact k_X0_widthOf_0 x sn sa sz sg hs4 hq hn40
  | 1, _, hq => exact k_X0_widthOf_1 x sn sa sz sg hs4 hq hn40
  | 2, _, hq => exact k_X0_widthOf_2 x sn sa sz sg hs4 hq hn40
theorem k_X0_lay_0 {l : Launch} {D : va_G} {L : Nat → Nat} {A : Nat → Prop} (x : cst) (sn sa sz : Nat) (sg : Nat → Int32) (hs4 : sn < 4) (hq : x.2.2.2 sn = some (sa, 0, sz, sg)) (hn40 : sz ≤ 40) (i : Nat) (v : Int32) (hi : i < sz) : Met l yX0_lay (ws_ yX0_lay cX0_lay 3 none) ({ frames := 0, cells := 0, slots := 0, locals := 0 } : Room) (va_Pc [.ref sa, .int (nI i), .int v] (pI D (cfC D L x) A)) (nQ D (cfC D L (xsh x sn (some (sa, 0, sz, upd sg i (shn 0 v))))) A none) 0 0 A := by
  refine met_I (by decide) rfl (Nat.le_of_ble_eq_true rfl) ?_
  intro p e s m below meth c ls hx hb hr hml hown hts hlocks hl hI hK
  have F : CallFix p m c cX0_lay 3 s _ lw_all RX0 := ⟨hx, hb, hml, hown, hts⟩
  have hl : lv_has ls 3 [(0, .ref sa), (1, .int (nI i)), (2, .int v)] := hl
  have hS : va_S A s.heap s.heap [] := va_S.rf
  refine lv_aload_n hx hb dX0_lay_0 rfl (lv_at hl 0 rfl) ?_
  refine r_instA hx hb hown (hts _ q900) hI (cf_sh4 (k := sn) hs4 hq) (va_nm_byte (hK.1.2 1 _ rfl).2) dX0_lay_1 ?_
  refine lv_if_eq (tgt := 18) hx hb dX0_lay_4 (by decide) (fun c_4 => ?_) (fun c_4 => ?_)
  · skip
    have c_4 : 1 = 0 := (neq (a := 1) (b := 0) (rfl) (rfl) (by omega) (by omega)).mp c_4
    exact absurd c_4 (by decide)
  · skip
    have c_4 : ¬ 1 = 0 := fun z => c_4 ((neq (a := 1) (b := 0) (rfl) (rfl) (by omega) (by omega)).mpr z)
    refine lv_aload_n hx hb dX0_lay_7 rfl (lv_at hl 0 rfl) ?_
    refine r_castA hx hb hown (hts _ q900) hI (cf_sh4 (k := sn) hs4 hq) (va_nm_byte (hK.1.2 1 _ rfl).2) dX0_lay_8 ?_
    refine lv_iload_n hx hb dX0_lay_11 rfl (lv_at hl 1 rfl) ?_
    refine lv_iload_n hx hb dX0_lay_12 rfl (lv_at hl 2 rfl) ?_
    refine lv_i2b (v := (v : Int32).toInt8.toInt32) hx hb dX0_lay_13 rfl ?_
    obtain ⟨x1, ex1⟩ : ∃ z, z = xsh x sn (some (sa, 0, sz, upd sg i ((v : Int32).toInt8.toInt32))) := ⟨_, rfl⟩
    refine n_bast (cf' := cfC D L x1) (k := i) hx hb hK hI hS (cf_sh4 (k := sn) hs4 hq) (rfl) (by omega) (by omega) (pk_vb _) (by rw [ex1]; exact cs_sh hs4 hq) dX0_lay_14 (fun H1 locs1 hI hS => ?_)
    refine lv_goto (tgt := 43) hx hb dX0_lay_15 (by decide) ?_
    exact W.vret hx hb hr (fun t ht _ => ⟨rfl, by rw [ht]; exact hw_eq hI (congrArg (cfC D L) (by rw [ex1]; rfl)), hS.F ht⟩) hS.2.2 dX0_lay_43
theorem k_X0_lay_1 {l : Launch} {D : va_G} {L : Nat → Nat} {A : Nat → Prop} (x : cst) (sn sa sz : Nat) (sg : Nat → Int32) (hs4 : sn < 4) (hq : x.2.2.2 sn = some (sa, 1, sz, sg)) (hn40 : sz ≤ 40) (i : Nat) (v : Int32) (hi : i < sz) : Met l yX0_lay (ws_ yX0_lay cX0_lay 3 none) ({ frames := 0, cells := 0, slots := 0, locals := 0 } : Room) (va_Pc [.ref sa, .int (nI i), .int v] (pI D (cfC D L x) A)) (nQ D (cfC D L (xsh x sn (some (sa, 1, sz, upd sg i (shn 1 v))))) A none) 0 0 A := by
  refine met_I (by decide) rfl (Nat.le_of_ble_eq_true rfl) ?_
  intro p e s m below meth c ls hx hb hr hml hown hts hlocks hl hI hK
  have F : CallFix p m c cX0_lay 3 s _ lw_all RX0 := ⟨hx, hb, hml, hown, hts⟩
  have hl : lv_has ls 3 [(0, .ref sa), (1, .int (nI i)), (2, .int v)] := hl
  have hS : va_S A s.heap s.heap [] := va_S.rf
  refine lv_aload_n hx hb dX0_lay_0 rfl (lv_at hl 0 rfl) ?_
  refine va_instNo hx hb hown (hts _ q900) (hK.2.2.2.2 ("[S", "[B") (by decide)) (arr_recv hI (cf_sh4 (k := sn) hs4 hq) (va_nm_short (hK.1.2 2 _ rfl).2)) dX0_lay_1 ?_
  refine lv_if_eq (tgt := 18) hx hb dX0_lay_4 (by decide) (fun c_4 => ?_) (fun c_4 => ?_)
  · skip
    have c_4 : 0 = 0 := (neq (a := 0) (b := 0) (rfl) (rfl) (by omega) (by omega)).mp c_4
    refine lv_aload_n hx hb dX0_lay_18 rfl (lv_at hl 0 rfl) ?_
    refine r_instA hx hb hown (hts _ q901) hI (cf_sh4 (k := sn) hs4 hq) (va_nm_short (hK.1.2 2 _ rfl).2) dX0_lay_19 ?_
    refine lv_if_eq (tgt := 36) hx hb dX0_lay_22 (by decide) (fun c_22 => ?_) (fun c_22 => ?_)
    · skip
      have c_22 : 1 = 0 := (neq (a := 1) (b := 0) (rfl) (rfl) (by omega) (by omega)).mp c_22
      exact absurd c_22 (by decide)
    · skip
      have c_22 : ¬ 1 = 0 := fun z => c_22 ((neq (a := 1) (b := 0) (rfl) (rfl) (by omega) (by omega)).mpr z)
      refine lv_aload_n hx hb dX0_lay_25 rfl (lv_at hl 0 rfl) ?_
      refine r_castA hx hb hown (hts _ q901) hI (cf_sh4 (k := sn) hs4 hq) (va_nm_short (hK.1.2 2 _ rfl).2) dX0_lay_26 ?_
      refine lv_iload_n hx hb dX0_lay_29 rfl (lv_at hl 1 rfl) ?_
      refine lv_iload_n hx hb dX0_lay_30 rfl (lv_at hl 2 rfl) ?_
      refine lv_i2s (v := (v : Int32).toInt16.toInt32) hx hb dX0_lay_31 rfl ?_
      obtain ⟨x1, ex1⟩ : ∃ z, z = xsh x sn (some (sa, 1, sz, upd sg i ((v : Int32).toInt16.toInt32))) := ⟨_, rfl⟩
      refine n_sast (cf' := cfC D L x1) (k := i) hx hb hK hI hS (cf_sh4 (k := sn) hs4 hq) (rfl) (by omega) (by omega) (pk_vs _) (by rw [ex1]; exact cs_sh hs4 hq) dX0_lay_32 (fun H1 locs1 hI hS => ?_)
      refine lv_goto (tgt := 43) hx hb dX0_lay_33 (by decide) ?_
      exact W.vret hx hb hr (fun t ht _ => ⟨rfl, by rw [ht]; exact hw_eq hI (congrArg (cfC D L) (by rw [ex1]; rfl)), hS.F ht⟩) hS.2.2 dX0_lay_43
  · skip
    have c_4 : ¬ 0 = 0 := fun z => c_4 ((neq (a := 0) (b := 0) (rfl) (rfl) (by omega) (by omega)).mpr z)
    exact absurd (by decide) c_4
theorem k_X0_lay_2 {l : Launch} {D : va_G} {L : Nat → Nat} {A : Nat → Prop} (x : cst) (sn sa sz : Nat) (sg : Nat → Int32) (hs4 : sn < 4) (hq : x.2.2.2 sn = some (sa, 2, sz, sg)) (hn40 : sz ≤ 40) (i : Nat) (v : Int32) (hi : i < sz) : Met l yX0_lay (ws_ yX0_lay cX0_lay 3 none) ({ frames := 0, cells := 0, slots := 0, locals := 0 } : Room) (va_Pc [.ref sa, .int (nI i), .int v] (pI D (cfC D L x) A)) (nQ D (cfC D L (xsh x sn (some (sa, 2, sz, upd sg i (shn 2 v))))) A none) 0 0 A := by
  refine met_I (by decide) rfl (Nat.le_of_ble_eq_true rfl) ?_
  intro p e s m below meth c ls hx hb hr hml hown hts hlocks hl hI hK
  have F : CallFix p m c cX0_lay 3 s _ lw_all RX0 := ⟨hx, hb, hml, hown, hts⟩
  have hl : lv_has ls 3 [(0, .ref sa), (1, .int (nI i)), (2, .int v)] := hl
  have hS : va_S A s.heap s.heap [] := va_S.rf
  refine lv_aload_n hx hb dX0_lay_0 rfl (lv_at hl 0 rfl) ?_
  refine va_instNo hx hb hown (hts _ q900) (hK.2.2.2.2 ("[I", "[B") (by decide)) (arr_recv hI (cf_sh4 (k := sn) hs4 hq) (va_nm_int (hK.1.2 0 _ rfl).2)) dX0_lay_1 ?_
  refine lv_if_eq (tgt := 18) hx hb dX0_lay_4 (by decide) (fun c_4 => ?_) (fun c_4 => ?_)
  · skip
    have c_4 : 0 = 0 := (neq (a := 0) (b := 0) (rfl) (rfl) (by omega) (by omega)).mp c_4
    refine lv_aload_n hx hb dX0_lay_18 rfl (lv_at hl 0 rfl) ?_
    refine va_instNo hx hb hown (hts _ q901) (hK.2.2.2.2 ("[I", "[S") (by decide)) (arr_recv hI (cf_sh4 (k := sn) hs4 hq) (va_nm_int (hK.1.2 0 _ rfl).2)) dX0_lay_19 ?_
    refine lv_if_eq (tgt := 36) hx hb dX0_lay_22 (by decide) (fun c_22 => ?_) (fun c_22 => ?_)
    · skip
      have c_22 : 0 = 0 := (neq (a := 0) (b := 0) (rfl) (rfl) (by omega) (by omega)).mp c_22
      refine lv_aload_n hx hb dX0_lay_36 rfl (lv_at hl 0 rfl) ?_
      refine r_castA hx hb hown (hts _ q902) hI (cf_sh4 (k := sn) hs4 hq) (va_nm_int (hK.1.2 0 _ rfl).2) dX0_lay_37 ?_
      refine lv_iload_n hx hb dX0_lay_40 rfl (lv_at hl 1 rfl) ?_
      refine lv_iload_n hx hb dX0_lay_41 rfl (lv_at hl 2 rfl) ?_
      obtain ⟨x1, ex1⟩ : ∃ z, z = xsh x sn (some (sa, 2, sz, upd sg i v)) := ⟨_, rfl⟩
      refine n_iast (cf' := cfC D L x1) (k := i) hx hb hK hI hS (cf_sh4 (k := sn) hs4 hq) (rfl) (by omega) (by omega) (by rw [ex1]; exact cs_sh hs4 hq) dX0_lay_42 (fun H1 locs1 hI hS => ?_)
      exact W.vret hx hb hr (fun t ht _ => ⟨rfl, by rw [ht]; exact hw_eq hI (congrArg (cfC D L) (by rw [ex1]; rfl)), hS.F ht⟩) hS.2.2 dX0_lay_43
    · skip
      have c_22 : ¬ 0 = 0 := fun z => c_22 ((neq (a := 0) (b := 0) (rfl) (rfl) (by omega) (by omega)).mpr z)
      exact absurd (by decide) c_22
  · skip
    have c_4 : ¬ 0 = 0 := fun z => c_4 ((neq (a := 0) (b := 0) (rfl) (rfl) (by omega) (by omega)).mpr z)
    exact absurd (by decide) c_4
theorem k_X0_lay {l : Launch} {D : va_G} {L : Nat → Nat} {A : Nat → Prop} (x : cst) (sn sa t sz : Nat) (sg : Nat → Int32) (hs4 : sn < 4) (hq : x.2.2.2 sn = some (sa, t, sz, sg)) (ht3 : t < 3) (hn40 : sz ≤ 40) (i : Nat) (v : Int32) (hi : i < sz) : Met l yX0_lay (ws_ yX0_lay cX0_lay 3 none) ({ frames := 0, cells := 0, slots := 0, locals := 0 } : Room) (va_Pc [.ref sa, .int (nI i), .int v] (pI D (cfC D L x) A)) (nQ D (cfC D L (xsh x sn (some (sa, t, sz, upd sg i (shn t v))))) A none) 0 0 A := by
  match t, ht3, hq with
  | 0, _, hq => exact k_X0_lay_0 x sn sa sz sg hs4 hq hn40 i v hi
  | 1, _, hq => exact k_X0_lay_1 x sn sa sz sg hs4 hq hn40 i v hi
  | 2, _, hq => exact k_X0_lay_2 x sn sa sz sg hs4 hq hn40 i v hi
